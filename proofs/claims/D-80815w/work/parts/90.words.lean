/-! the words of the throws, by their places in the tables -/
set_option maxRecDepth 100000
theorem ws_tbl {p : Program} {s : State} {m : MethodId} {args : Array Value} {c : Code} {cc : ByteArray} {D : va_G} {T N : Nat → Nat} {A : Nat → Prop} {nL : Nat} {own : String} (hC : Ct D T N A p s m args c cc own nL) {L : List Cond} (ps : List Nat) (hp : L = ps.filterMap (fun i => lw_tbl[i]?)) (hg : L.all (fun w => goodWord w || (nestW w && w.onTables)) = true) : ∀ w ∈ L, w.before args s = true := fun w hw => by
  have h1 := List.all_eq_true.mp hg w hw
  have h2 : w ∈ lw_tbl := by
    rw [hp] at hw
    obtain ⟨i, -, hi⟩ := List.mem_filterMap.mp hw
    exact List.mem_of_getElem? hi
  rcases (Bool.or_eq_true _ _).mp h1 with h | h
  · exact hC.ts w (lw_g h2 h)
  · obtain ⟨h3, h4⟩ := (Bool.and_eq_true _ _).mp h
    exact hC.W.u h2 h3 h4
def pl_npe : List Nat := [59, 750, 691, 710, 713, 715, 751, 752, 74, 75, 685, 690, 711, 718, 744, 719, 745, 720, 746, 686, 688, 747, 707, 697, 698, 825, 827, 704, 705, 839, 816, 817, 818, 819, 737, 819, 820, 821, 822, 739, 822, 823, 824, 751, 741, 66, 702, 837, 838, 696, 833, 834, 836, 716, 748, 831]
theorem pe_npe : vx_atN 8 = pl_npe.filterMap (fun i => lw_tbl[i]?) := by rfl
theorem pg_npe : (vx_atN 8).all (fun w => goodWord w || (nestW w && w.onTables)) = true := by rw [pe_npe]; rfl
theorem po_npe : ∀ w ∈ vx_atN 8, vx_ot w = true := List.all_eq_true.mp (by rw [pe_npe]; rfl)
def pl_cce : List Nat := [59, 750, 691, 710, 713, 715, 751, 752, 74, 75, 685, 690, 711, 718, 744, 719, 745, 720, 746, 686, 688, 747, 683, 684, 717, 747, 842, 843, 844, 677, 738, 677, 678, 679, 680, 740, 680, 681, 682, 683, 742, 64, 753, 754, 755, 757, 756, 758, 67, 841, 852, 853, 694, 847, 848, 850, 846, 716, 748, 845]
theorem pe_cce : vx_atM "java/lang/ClassCastException" ["java/lang/RuntimeException", "java/lang/Exception"] = pl_cce.filterMap (fun i => lw_tbl[i]?) := by rfl
theorem pg_cce : (vx_atM "java/lang/ClassCastException" ["java/lang/RuntimeException", "java/lang/Exception"]).all (fun w => goodWord w || (nestW w && w.onTables)) = true := by rw [pe_cce]; rfl
theorem po_cce : ∀ w ∈ vx_atM "java/lang/ClassCastException" ["java/lang/RuntimeException", "java/lang/Exception"], vx_ot w = true := List.all_eq_true.mp (by rw [pe_cce]; rfl)
def pl_nas : List Nat := [59, 750, 691, 710, 713, 715, 751, 752, 74, 75, 685, 690, 711, 718, 744, 719, 745, 720, 746, 686, 688, 747, 683, 684, 717, 747, 784, 785, 786, 677, 738, 677, 678, 679, 680, 740, 680, 681, 682, 683, 742, 64, 753, 754, 755, 757, 756, 758, 65, 783, 794, 795, 695, 789, 790, 792, 788, 716, 748, 787]
theorem pe_nas : vx_atM "java/lang/NegativeArraySizeException" ["java/lang/RuntimeException", "java/lang/Exception"] = pl_nas.filterMap (fun i => lw_tbl[i]?) := by rfl
theorem pg_nas : (vx_atM "java/lang/NegativeArraySizeException" ["java/lang/RuntimeException", "java/lang/Exception"]).all (fun w => goodWord w || (nestW w && w.onTables)) = true := by rw [pe_nas]; rfl
theorem po_nas : ∀ w ∈ vx_atM "java/lang/NegativeArraySizeException" ["java/lang/RuntimeException", "java/lang/Exception"], vx_ot w = true := List.all_eq_true.mp (by rw [pe_nas]; rfl)
def pl_oob : List Nat := [59, 750, 691, 710, 713, 715, 751, 752, 74, 75, 685, 690, 711, 718, 744, 719, 745, 720, 746, 686, 688, 747, 683, 684, 717, 747, 671, 672, 673, 674, 736, 674, 675, 676, 677, 738, 677, 678, 679, 680, 740, 680, 681, 682, 683, 742, 64, 753, 754, 755, 757, 756, 758, 63, 670, 734, 743, 693, 725, 727, 731, 723, 716, 748, 721]
theorem pe_oob : vx_atM "java/lang/ArrayIndexOutOfBoundsException" ["java/lang/IndexOutOfBoundsException", "java/lang/RuntimeException", "java/lang/Exception"] = pl_oob.filterMap (fun i => lw_tbl[i]?) := by rfl
theorem pg_oob : (vx_atM "java/lang/ArrayIndexOutOfBoundsException" ["java/lang/IndexOutOfBoundsException", "java/lang/RuntimeException", "java/lang/Exception"]).all (fun w => goodWord w || (nestW w && w.onTables)) = true := by rw [pe_oob]; rfl
theorem po_oob : ∀ w ∈ vx_atM "java/lang/ArrayIndexOutOfBoundsException" ["java/lang/IndexOutOfBoundsException", "java/lang/RuntimeException", "java/lang/Exception"], vx_ot w = true := List.all_eq_true.mp (by rw [pe_oob]; rfl)
