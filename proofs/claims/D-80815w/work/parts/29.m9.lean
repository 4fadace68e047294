/-! FairFightModel: what if -/
set_option maxHeartbeats 4000000 in
set_option maxRecDepth 100000 in
theorem m3_surprised (D : va_G) (T N : Nat → Nat) (l : Launch) {m : Nat} (F : Nat → Int) (V : Nat → Int → Int) (sd : Int) (hI : SI F V) (hg : (-2147483648 ≤ sd ∧ sd ≤ 2147483647)) : MMi D T N l yX3_surprised (ws_ yX3_surprised cX3_surprised 2 (some .int)) ({ frames := 4, cells := 0, slots := 0, locals := 102 } : Room) m [.int (iI (sd))] F V (mP (op_surprised F V sd)) := by
  intro g0 n hM
  refine j_start (by decide) (Nat.le_of_ble_eq_true rfl) ?_
  intro p e s mi args below meth c hC hr hlk hnm hX ls hl
  have hC : Ct D T N (gA g0 n) p s mi args c cX3_surprised RX3 2 := hC
  have hx := hC.x
  have hb := hC.b
  have ho : off g0 g0 m 27 := off.rf
  generalize hQ : MQ below _ args s 0 0 (gA g0 n) = Q
  have hl : lv_has ls 2 [(0, .ref (m)), (1, .int (iI (sd)))] := hl
  have hn := hI.nums
  refine lv_iload_n hx hb (pc := 0) dX3_surprised_0 rfl (lv_at hl 1 rfl) ?_
  refine j_i2l hC (pc := 1) dX3_surprised_1 (by omega) ?_
  refine j_ldc2 hC (pc := 2) (z := -1) q1048 dX3_surprised_2 rfl ?_
  refine j_lconst hC (pc := 5) (w := 1) dX3_surprised_5 rfl ?_
  refine S_calli (As := [.long (lI (sd)), .long (lI (-1)), .long (lI (1))]) (rest := []) hC hX (m3_in D T N l sd (-1) 1 (by omega)) (va_cwS 3 hC.ts (lw_S q1020 q1021 q46 q1022) rfl rfl rfl (by decide +kernel) ⟨Nat.le_of_ble_eq_true rfl, Nat.le_of_ble_eq_true rfl⟩) rfl hl.1 (Nat.le_of_ble_eq_true rfl) dX3_surprised_6 ⟨Nat.zero_le _, Nat.zero_le _⟩ (fun r1 H locs hp hX => ?_)
  have hq_r1 := inF_of hp
  refine j_if_ne hC (pc := 9) 15 dX3_surprised_9 (by decide) (by omega) (fun c2 => ?_) (fun c2 => ?_)
  · skip
    refine lv_aload_n hx hb (pc := 15) dX3_surprised_15 rfl (lv_at hl 0 rfl) ?_
    refine j_iconst hC (pc := 16) dX3_surprised_16 ?_
    refine M_callv (As := [.int (iI (0))]) (rest := []) hC hX hM ho (m3_sets D T N l _ _ 0 (by omega)) (cwV 1 hC.ts (lw_V q1064 q1066 qs18 q46 q1067) rfl rfl rfl (by decide +kernel) ⟨Nat.le_of_ble_eq_true rfl, Nat.le_of_ble_eq_true rfl⟩) rfl hl.1 (Nat.le_of_ble_eq_true rfl) dX3_surprised_17 ⟨Nat.zero_le _, Nat.zero_le _⟩ (fun F4 V4 g H locs hp hX hM ho => ?_)
    have hP : PW F V (V 2) 0 (F 5) F4 V4 := ⟨⟨hI, hI.w2, (by omega), hI.nums.2.2.2.1⟩, ⟨by rw [hp.1]; exact ch.rf.up 8 _ (by decide), hp.2.1, by rw [hp.1]; rfl⟩, fun j a b => (hp.2.2 j a b).1, fun j a b => (hp.2.2 j a b).2⟩
    refine lv_aload_n hx hb (pc := 20) dX3_surprised_20 rfl (lv_at hl 0 rfl) ?_
    refine lv_iload_n hx hb (pc := 21) dX3_surprised_21 rfl (lv_at hl 1 rfl) ?_
    refine M_put hC hX hM ho (pc := 22) 8 (by decide) q896 rfl dX3_surprised_22 (fun g H locs hX hM ho => ?_)
    have hP : PW F V (V 2) 0 sd (va_up F4 8 sd) V4 := ⟨⟨hI, hI.w2, by decide, by omega⟩, ⟨hP.2.1.1.up 8 _ (by decide), hP.2.1.2.1, rfl⟩, hP.2.2.1, hP.2.2.2⟩
    refine lv_aload_n hx hb (pc := 25) dX3_surprised_25 rfl (lv_at hl 0 rfl) ?_
    refine M_calli (As := []) (rest := []) hC hX hM ho (m3_works D T N l _ _ _ _ _ _ hP.su hP.sl hP.I hP.W hP.2.2.1 hP.1.2.2.1 hP.2.2.2 hP.st) (cwV 0 hC.ts (lw_V q1084 q1086 qs22 q46 q1087) rfl rfl rfl (by decide +kernel) ⟨Nat.le_of_ble_eq_true rfl, Nat.le_of_ble_eq_true rfl⟩) rfl hl.1 (Nat.le_of_ble_eq_true rfl) dX3_surprised_26 ⟨Nat.zero_le _, Nat.zero_le _⟩ (fun r5 F6 V6 g H locs hp hX hM ho => ?_)
    have hw := hP.post hp
    have hr5 := hw.two
    refine j_if_eq hC (pc := 29) 37 dX3_surprised_29 (by decide) (by omega) (fun c7 => ?_) (fun c7 => ?_)
    · skip
      refine lv_aload_n hx hb (pc := 37) dX3_surprised_37 rfl (lv_at hl 0 rfl) ?_
      refine M_calli (As := []) (rest := []) hC hX hM ho (m3_chanceOf D T N l _ _ _ _ _ hw.2.1 (hw.fine (by omega)).2.1 (hw.fine (by omega)).2.2.2.2.1 rfl (hw.fine (by omega)).2.2.2.2.2.1 (hw.fine (by omega)).2.2.2.2.2.2) (cwV 0 hC.ts (lw_V q1147 q1149 qs34 q46 q1150) rfl rfl rfl (by decide +kernel) ⟨Nat.le_of_ble_eq_true rfl, Nat.le_of_ble_eq_true rfl⟩) rfl hl.1 (Nat.le_of_ble_eq_true rfl) dX3_surprised_38 ⟨Nat.zero_le _, Nat.zero_le _⟩ (fun r8 F9 V9 g H locs hp hX hM ho => ?_)
      obtain ⟨hp, hF_, hV_⟩ := hp
      rw [hF_, hV_] at hM
      subst hQ
      exact j_iret hC (pc := 41) hX hr hlk (Nat.le_refl _) (Nat.le_refl _) dX3_surprised_41 ⟨rfl, _, _, hM, ho, ⟨by unfold op_surprised; rw [if_pos (by omega)]; rw [hp]; exact (hw.odd (by omega)).symm, ch.wd hw.1.1 (by decide), ch.wd hw.1.2 (by decide)⟩⟩
    · skip
      refine j_bipush hC (pc := 32) dX3_surprised_32 (by decide) ?_
      refine j_goto hC (pc := 34) 41 dX3_surprised_34 (by decide) ?_
      subst hQ
      exact j_iret hC (pc := 41) hX hr hlk (Nat.le_refl _) (Nat.le_refl _) dX3_surprised_41 ⟨rfl, _, _, hM, ho, ⟨by unfold op_surprised; rw [if_pos (by omega)]; exact (hw.wide (by omega)).1.symm, ch.wd hw.1.1 (by decide), ch.wd hw.1.2 (by decide)⟩⟩
  · skip
    refine j_bipush hC (pc := 12) dX3_surprised_12 (by decide) ?_
    subst hQ
    exact j_iret hC (pc := 14) hX hr hlk (Nat.le_refl _) (Nat.le_refl _) dX3_surprised_14 ⟨rfl, _, _, hM, ho, ⟨by unfold op_surprised; rw [if_neg (by omega)], ch.rf, ch.rf⟩⟩

theorem SI.up1 {F : Nat → Int} {V : Nat → Int → Int} (h : SI F V) {f w v : Int} (hf : 0 ≤ f ∧ f < F 0) (hw : 0 ≤ w ∧ w < 6) (hv : numF w v = 1) : SI F (va_up V 1 (uI (V 1) (6 * f + w) v)) := by
  refine ⟨h.1, fun f' w' a b c d => ?_, h.2.2⟩
  show numF w' (uI (V 1) (6 * f + w) v (6 * f' + w')) = 1
  unfold uI
  split
  · rename_i q
    rw [show w' = w by omega]
    exact hv
  · exact h.2.1 f' w' a b c d

set_option maxHeartbeats 4000000 in
set_option maxRecDepth 100000 in
theorem m3_better (D : va_G) (T N : Nat → Nat) (l : Launch) {m : Nat} (F : Nat → Int) (V : Nat → Int → Int) (f w : Int) (hI : SI F V) (hg : (-2147483648 ≤ f ∧ f ≤ 2147483647) ∧ (-2147483648 ≤ w ∧ w ≤ 2147483647)) : MMi D T N l yX3_better (ws_ yX3_better cX3_better 5 (some .int)) ({ frames := 6, cells := 0, slots := 0, locals := 142 } : Room) m [.int (iI (f)), .int (iI (w))] F V (mP (op_better F V f w)) := by
  intro g0 n hM
  refine j_start (by decide) (Nat.le_of_ble_eq_true rfl) ?_
  intro p e s mi args below meth c hC hr hlk hnm hX ls hl
  have hC : Ct D T N (gA g0 n) p s mi args c cX3_better RX3 5 := hC
  have hx := hC.x
  have hb := hC.b
  have ho : off g0 g0 m 27 := off.rf
  generalize hQ : MQ below _ args s 0 0 (gA g0 n) = Q
  have hl : lv_has ls 5 [(0, .ref (m)), (1, .int (iI (f))), (2, .int (iI (w)))] := hl
  have hn := hI.nums
  refine lv_aload_n hx hb (pc := 0) dX3_better_0 rfl (lv_at hl 0 rfl) ?_
  refine lv_iload_n hx hb (pc := 1) dX3_better_1 rfl (lv_at hl 1 rfl) ?_
  refine M_calli (As := [.int (iI (f))]) (rest := []) hC hX hM ho (m3_isFighter D T N l _ _ f hI (by omega)) (cwV 1 hC.ts (lw_V q1031 q1033 qs16 q46 q1034) rfl rfl rfl (by decide +kernel) ⟨Nat.le_of_ble_eq_true rfl, Nat.le_of_ble_eq_true rfl⟩) rfl hl.1 (Nat.le_of_ble_eq_true rfl) dX3_better_2 ⟨Nat.zero_le _, Nat.zero_le _⟩ (fun r1 F2 V2 g H locs hp hX hM ho => ?_)
  obtain ⟨hp, hF_, hV_⟩ := hp
  rw [hF_, hV_] at hM
  have hq_r1 := inF_of hp
  refine j_if_eq hC (pc := 5) 40 dX3_better_5 (by decide) (by omega) (fun c3 => ?_) (fun c3 => ?_)
  · skip
    refine j_ldc hC (pc := 40) (z := -2147483648) q1168 dX3_better_40 rfl ?_
    subst hQ
    exact j_iret hC (pc := 42) hX hr hlk (Nat.le_refl _) (Nat.le_refl _) dX3_better_42 ⟨rfl, _, _, hM, ho, ⟨by unfold op_better; rw [if_neg (by omega)], ch.rf, ch.rf⟩⟩
  · skip
    refine lv_iload_n hx hb (pc := 8) dX3_better_8 rfl (lv_at hl 2 rfl) ?_
    refine j_i2l hC (pc := 9) dX3_better_9 (by omega) ?_
    refine j_lconst hC (pc := 10) (w := 1) dX3_better_10 rfl ?_
    refine j_ldc2 hC (pc := 11) (z := 5) q1035 dX3_better_11 rfl ?_
    refine S_calli (As := [.long (lI (w)), .long (lI (1)), .long (lI (5))]) (rest := []) hC hX (m3_in D T N l w 1 5 (by omega)) (va_cwS 3 hC.ts (lw_S q1020 q1021 q46 q1022) rfl rfl rfl (by decide +kernel) ⟨Nat.le_of_ble_eq_true rfl, Nat.le_of_ble_eq_true rfl⟩) rfl hl.1 (Nat.le_of_ble_eq_true rfl) dX3_better_14 ⟨Nat.zero_le _, Nat.zero_le _⟩ (fun r4 H locs hp hX => ?_)
    have hq_r4 := inF_of hp
    refine j_if_eq hC (pc := 17) 40 dX3_better_17 (by decide) (by omega) (fun c5 => ?_) (fun c5 => ?_)
    · skip
      refine j_ldc hC (pc := 40) (z := -2147483648) q1168 dX3_better_40 rfl ?_
      subst hQ
      exact j_iret hC (pc := 42) hX hr hlk (Nat.le_refl _) (Nat.le_refl _) dX3_better_42 ⟨rfl, _, _, hM, ho, ⟨by unfold op_better; rw [if_neg (by omega)], ch.rf, ch.rf⟩⟩
    · skip
      have h1_ := hI.i1 (i := 6 * f + w) (by omega)
      refine lv_iload_n hx hb (pc := 20) dX3_better_20 rfl (lv_at hl 2 rfl) ?_
      refine lv_aload_n hx hb (pc := 21) dX3_better_21 rfl (lv_at hl 0 rfl) ?_
      refine M_get hC hX hM (pc := 22) 1 (by decide) q889 rfl (v := .ref (m + 1)) rfl dX3_better_22 ?_
      refine j_bipush hC (pc := 25) dX3_better_25 (by decide) ?_
      refine lv_iload_n hx hb (pc := 27) dX3_better_27 rfl (lv_at hl 1 rfl) ?_
      refine j_imul hC (pc := 28) dX3_better_28 ?_
      refine lv_iload_n hx hb (pc := 29) dX3_better_29 rfl (lv_at hl 2 rfl) ?_
      refine j_iadd hC (pc := 30) dX3_better_30 ?_
      refine M_iald hC hX hM (pc := 31) 1 (by decide) (L := 96) ⟨rfl, by decide⟩ (by omega) (z := V 1 ((6 * f) + w)) rfl dX3_better_31 ?_
      refine j_iconst hC (pc := 32) dX3_better_32 ?_
      refine j_iadd hC (pc := 33) dX3_better_33 ?_
      refine S_calli (As := [.int (iI (w)), .int (iI ((V 1 ((6 * f) + w)) + 1))]) (rest := []) hC hX (m3_isNumber D T N l w ((V 1 ((6 * f) + w)) + 1) (by omega)) (va_cwS 2 hC.ts (lw_S q1016 q1017 q46 q1018) rfl rfl rfl (by decide +kernel) ⟨Nat.le_of_ble_eq_true rfl, Nat.le_of_ble_eq_true rfl⟩) rfl hl.1 (Nat.le_of_ble_eq_true rfl) dX3_better_34 ⟨Nat.zero_le _, Nat.zero_le _⟩ (fun r6 H locs hp hX => ?_)
      have hq_r6 := numF_of hp
      refine j_if_ne hC (pc := 37) 43 dX3_better_37 (by decide) (by omega) (fun c7 => ?_) (fun c7 => ?_)
      · skip
        refine lv_aload_n hx hb (pc := 43) dX3_better_43 rfl (lv_at hl 0 rfl) ?_
        refine M_calli (As := []) (rest := []) hC hX hM ho (m3_chance D T N l _ _ hI) (cwV 0 hC.ts (lw_V q1169 q1144 q1145 q46 q1146) rfl rfl rfl (by decide +kernel) ⟨Nat.le_of_ble_eq_true rfl, Nat.le_of_ble_eq_true rfl⟩) rfl hl.1 (Nat.le_of_ble_eq_true rfl) dX3_better_44 ⟨Nat.zero_le _, Nat.zero_le _⟩ (fun r8 F9 V9 g H locs hp hX hM ho => ?_)
        have ha : r8 = oddW F V (V 2) 0 (F 5) ∧ ch F F9 scF ∧ ch V V9 scV := hp
        have hI1 : SI F9 V9 := hI.ch ha.2.1 ha.2.2
        have hrg1 := oddW_rg hI hI.w2 (bo := 0) (by decide) hI.nums.2.2.2.1
        have ha1 : r8 = oddW F V (V 2) 0 (F 5) := ha.1
        refine lv_istore_n (lv' := [(3, .int (iI (r8))), (0, .ref (m)), (1, .int (iI (f))), (2, .int (iI (w)))]) hx hb (pc := 47) dX3_better_47 rfl hl (by decide) rfl (fun ls hl => ?_)
        have h1_ := hI.i1 (i := 6 * f + w) (by omega)
        refine lv_aload_n hx hb (pc := 48) dX3_better_48 rfl (lv_at hl 1 rfl) ?_
        refine M_get hC hX hM (pc := 49) 1 (by decide) q889 rfl (v := .ref (m + 1)) rfl dX3_better_49 ?_
        refine j_bipush hC (pc := 52) dX3_better_52 (by decide) ?_
        refine lv_iload_n hx hb (pc := 54) dX3_better_54 rfl (lv_at hl 2 rfl) ?_
        refine j_imul hC (pc := 55) dX3_better_55 ?_
        refine lv_iload_n hx hb (pc := 56) dX3_better_56 rfl (lv_at hl 3 rfl) ?_
        refine j_iadd hC (pc := 57) dX3_better_57 ?_
        refine lv_dup2_11 hx hb (pc := 58) dX3_better_58 rfl rfl ?_
        refine M_iald hC hX hM (pc := 59) 1 (by decide) (L := 96) ⟨rfl, by decide⟩ (by omega) (z := V9 1 ((6 * f) + w)) rfl dX3_better_59 ?_
        refine j_iconst hC (pc := 60) dX3_better_60 ?_
        refine j_iadd hC (pc := 61) dX3_better_61 ?_
        refine M_iast hC hX hM ho (pc := 62) 1 (by decide) (L := 96) ⟨rfl, by decide⟩ (by omega) dX3_better_62 (fun g H locs hX hM ho => ?_)
        have hI2 : SI F9 (va_up V9 1 (uI (V9 1) (6 * f + w) (V9 1 (6 * f + w) + 1))) := hI1.up1 (by rw [ha.2.1 0 (by decide)]; omega) (by omega) (by rw [ha.2.2 1 (by decide)]; omega)
        refine lv_aload_n hx hb (pc := 63) dX3_better_63 rfl (lv_at hl 1 rfl) ?_
        refine M_calli (As := []) (rest := []) hC hX hM ho (m3_chance D T N l _ _ hI2) (cwV 0 hC.ts (lw_V q1169 q1144 q1145 q46 q1146) rfl rfl rfl (by decide +kernel) ⟨Nat.le_of_ble_eq_true rfl, Nat.le_of_ble_eq_true rfl⟩) rfl hl.1 (Nat.le_of_ble_eq_true rfl) dX3_better_64 ⟨Nat.zero_le _, Nat.zero_le _⟩ (fun r10 F11 V11 g H locs hp hX hM ho => ?_)
        have hb2 : r10 = oddW F9 (va_up V9 1 (uI (V9 1) (6 * f + w) (V9 1 (6 * f + w) + 1))) ((va_up V9 1 (uI (V9 1) (6 * f + w) (V9 1 (6 * f + w) + 1))) 2) 0 (F9 5) ∧ ch F9 F11 scF ∧ ch (va_up V9 1 (uI (V9 1) (6 * f + w) (V9 1 (6 * f + w) + 1))) V11 scV := hp
        have hrg2 := oddW_rg hI2 hI2.w2 (bo := 0) (by decide) hI2.nums.2.2.2.1
        have e5 : F9 5 = F 5 := ha.2.1 5 (by decide)
        have hb1 : r10 = oddW F (upN V f w) (V 2) 0 (F 5) := by rw [hb2.1]; show oddW _ _ _ 0 (F9 5) = _; rw [e5, show (va_up V9 1 (uI (V9 1) (6 * f + w) (V9 1 (6 * f + w) + 1))) 2 = V 2 from ha.2.2 2 (by decide)]; exact oddW_cg (ha.2.1 3 (by decide)) (ha.2.1 4 (by decide)) (by show uI (V9 1) _ _ = uI (V 1) _ _; rw [ha.2.2 1 (by decide)])
        rw [← hb2.1] at hrg2
        have hV1 : V11 1 = uI (V 1) (6 * f + w) (V 1 (6 * f + w) + 1) := by rw [hb2.2.2 1 (by decide)]; show uI (V9 1) _ _ = _; rw [ha.2.2 1 (by decide)]
        refine lv_istore (lv' := [(4, .int (iI (r10))), (3, .int (iI (r8))), (0, .ref (m)), (1, .int (iI (f))), (2, .int (iI (w)))]) hx hb (pc := 67) dX3_better_67 hl (by decide) rfl (fun ls hl => ?_)
        refine lv_aload_n hx hb (pc := 69) dX3_better_69 rfl (lv_at hl 2 rfl) ?_
        refine M_get hC hX hM (pc := 70) 1 (by decide) q889 rfl (v := .ref (m + 1)) rfl dX3_better_70 ?_
        refine j_bipush hC (pc := 73) dX3_better_73 (by decide) ?_
        refine lv_iload_n hx hb (pc := 75) dX3_better_75 rfl (lv_at hl 3 rfl) ?_
        refine j_imul hC (pc := 76) dX3_better_76 ?_
        refine lv_iload_n hx hb (pc := 77) dX3_better_77 rfl (lv_at hl 4 rfl) ?_
        refine j_iadd hC (pc := 78) dX3_better_78 ?_
        refine lv_dup2_11 hx hb (pc := 79) dX3_better_79 rfl rfl ?_
        refine M_iald hC hX hM (pc := 80) 1 (by decide) (L := 96) ⟨rfl, by decide⟩ (by omega) (z := V11 1 ((6 * f) + w)) rfl dX3_better_80 ?_
        refine j_iconst hC (pc := 81) dX3_better_81 ?_
        refine j_isub hC (pc := 82) dX3_better_82 ?_
        refine M_iast hC hX hM ho (pc := 83) 1 (by decide) (L := 96) ⟨rfl, by decide⟩ (by omega) dX3_better_83 (fun g H locs hX hM ho => ?_)
        refine lv_iload_n hx hb (pc := 84) dX3_better_84 rfl (lv_at hl 1 rfl) ?_
        refine j_bipush hC (pc := 85) dX3_better_85 (by decide) ?_
        refine j_icmp_eq hC (pc := 87) 97 dX3_better_87 (by decide) (by omega) (fun c12 => ?_) (fun c12 => ?_)
        · skip
          refine j_ldc hC (pc := 97) (z := -2147483647) q1170 dX3_better_97 rfl ?_
          refine j_goto hC (pc := 99) 106 dX3_better_99 (by decide) ?_
          subst hQ
          exact j_iret hC (pc := 106) hX hr hlk (Nat.le_refl _) (Nat.le_refl _) dX3_better_106 ⟨rfl, _, _, hM, ho, ⟨by unfold op_better; rw [if_pos (by omega), ← ha1, ← hb1]; rw [if_pos (by omega)], ch.tr (ks := scF) ha.2.1 hb2.2.1 (by decide), by intro j hj; rcases Decidable.em (j = 1) with z | z; subst z; show uI (V11 1) (6 * f + w) (V11 1 (6 * f + w) - 1) = V 1; rw [hV1, uI_s, show V 1 (6 * f + w) + 1 - 1 = V 1 (6 * f + w) by omega, uI_back]; exact (va_up_ne _ _ z).trans ((hb2.2.2 j hj).trans ((va_up_ne _ _ z).trans (ha.2.2 j hj)))⟩⟩
        · skip
          refine lv_iload hx hb (pc := 90) dX3_better_90 (lv_at hl 0 rfl) ?_
          refine j_bipush hC (pc := 92) dX3_better_92 (by decide) ?_
          refine j_icmp_ne hC (pc := 94) 102 dX3_better_94 (by decide) (by omega) (fun c13 => ?_) (fun c13 => ?_)
          · skip
            refine lv_iload hx hb (pc := 102) dX3_better_102 (lv_at hl 0 rfl) ?_
            refine lv_iload_n hx hb (pc := 104) dX3_better_104 rfl (lv_at hl 1 rfl) ?_
            refine j_isub hC (pc := 105) dX3_better_105 ?_
            subst hQ
            exact j_iret hC (pc := 106) hX hr hlk (Nat.le_refl _) (Nat.le_refl _) dX3_better_106 ⟨rfl, _, _, hM, ho, ⟨by unfold op_better; rw [if_pos (by omega), ← ha1, ← hb1]; rw [if_neg (by omega)], ch.tr (ks := scF) ha.2.1 hb2.2.1 (by decide), by intro j hj; rcases Decidable.em (j = 1) with z | z; subst z; show uI (V11 1) (6 * f + w) (V11 1 (6 * f + w) - 1) = V 1; rw [hV1, uI_s, show V 1 (6 * f + w) + 1 - 1 = V 1 (6 * f + w) by omega, uI_back]; exact (va_up_ne _ _ z).trans ((hb2.2.2 j hj).trans ((va_up_ne _ _ z).trans (ha.2.2 j hj)))⟩⟩
          · skip
            refine j_ldc hC (pc := 97) (z := -2147483647) q1170 dX3_better_97 rfl ?_
            refine j_goto hC (pc := 99) 106 dX3_better_99 (by decide) ?_
            subst hQ
            exact j_iret hC (pc := 106) hX hr hlk (Nat.le_refl _) (Nat.le_refl _) dX3_better_106 ⟨rfl, _, _, hM, ho, ⟨by unfold op_better; rw [if_pos (by omega), ← ha1, ← hb1]; rw [if_pos (by omega)], ch.tr (ks := scF) ha.2.1 hb2.2.1 (by decide), by intro j hj; rcases Decidable.em (j = 1) with z | z; subst z; show uI (V11 1) (6 * f + w) (V11 1 (6 * f + w) - 1) = V 1; rw [hV1, uI_s, show V 1 (6 * f + w) + 1 - 1 = V 1 (6 * f + w) by omega, uI_back]; exact (va_up_ne _ _ z).trans ((hb2.2.2 j hj).trans ((va_up_ne _ _ z).trans (ha.2.2 j hj)))⟩⟩
      · skip
        refine j_ldc hC (pc := 40) (z := -2147483648) q1168 dX3_better_40 rfl ?_
        subst hQ
        exact j_iret hC (pc := 42) hX hr hlk (Nat.le_refl _) (Nat.le_refl _) dX3_better_42 ⟨rfl, _, _, hM, ho, ⟨by unfold op_better; rw [if_neg (by omega)], ch.rf, ch.rf⟩⟩

set_option maxHeartbeats 4000000 in
set_option maxRecDepth 100000 in
theorem m3_without (D : va_G) (T N : Nat → Nat) (l : Launch) {m : Nat} (F : Nat → Int) (V : Nat → Int → Int) (pl : Int) (hI : SI F V) (hg : (-2147483648 ≤ pl ∧ pl ≤ 2147483647)) : MMi D T N l yX3_without (ws_ yX3_without cX3_without 3 (some .int)) ({ frames := 4, cells := 0, slots := 0, locals := 102 } : Room) m [.int (iI (pl))] F V (mP (op_without F V pl)) := by
  intro g0 n hM
  refine j_start (by decide) (Nat.le_of_ble_eq_true rfl) ?_
  intro p e s mi args below meth c hC hr hlk hnm hX ls hl
  have hC : Ct D T N (gA g0 n) p s mi args c cX3_without RX3 3 := hC
  have hx := hC.x
  have hb := hC.b
  have ho : off g0 g0 m 27 := off.rf
  generalize hQ : MQ below _ args s 0 0 (gA g0 n) = Q
  have hl : lv_has ls 3 [(0, .ref (m)), (1, .int (iI (pl)))] := hl
  have hn := hI.nums
  refine lv_iload_n hx hb (pc := 0) dX3_without_0 rfl (lv_at hl 1 rfl) ?_
  refine j_i2l hC (pc := 1) dX3_without_1 (by omega) ?_
  refine j_lconst hC (pc := 2) (w := 0) dX3_without_2 rfl ?_
  refine j_ldc2 hC (pc := 3) (z := 2) q1019 dX3_without_3 rfl ?_
  refine S_calli (As := [.long (lI (pl)), .long (lI (0)), .long (lI (2))]) (rest := []) hC hX (m3_in D T N l pl 0 2 (by omega)) (va_cwS 3 hC.ts (lw_S q1020 q1021 q46 q1022) rfl rfl rfl (by decide +kernel) ⟨Nat.le_of_ble_eq_true rfl, Nat.le_of_ble_eq_true rfl⟩) rfl hl.1 (Nat.le_of_ble_eq_true rfl) dX3_without_6 ⟨Nat.zero_le _, Nat.zero_le _⟩ (fun r1 H locs hp hX => ?_)
  have hq_r1 := inF_of hp
  refine j_if_eq hC (pc := 9) 22 dX3_without_9 (by decide) (by omega) (fun c2 => ?_) (fun c2 => ?_)
  · skip
    refine j_bipush hC (pc := 22) dX3_without_22 (by decide) ?_
    subst hQ
    exact j_iret hC (pc := 24) hX hr hlk (Nat.le_refl _) (Nat.le_refl _) dX3_without_24 ⟨rfl, _, _, hM, ho, ⟨by unfold op_without; rw [if_neg (by omega)], ch.rf, ch.rf⟩⟩
  · skip
    refine lv_aload_n hx hb (pc := 12) dX3_without_12 rfl (lv_at hl 0 rfl) ?_
    refine M_get hC hX hM (pc := 13) 2 (by decide) q890 rfl (v := .ref (m + 2)) rfl dX3_without_13 ?_
    have h2_ := hI.i2 (i := pl) (by omega)
    refine lv_iload_n hx hb (pc := 16) dX3_without_16 rfl (lv_at hl 1 rfl) ?_
    refine M_iald hC hX hM (pc := 17) 2 (by decide) (L := 6) ⟨rfl, by decide⟩ (by omega) (z := V 2 pl) rfl dX3_without_17 ?_
    refine j_iconst hC (pc := 18) dX3_without_18 ?_
    refine j_icmp_ne hC (pc := 19) 25 dX3_without_19 (by decide) (by omega) (fun c3 => ?_) (fun c3 => ?_)
    · skip
      refine lv_aload_n hx hb (pc := 25) dX3_without_25 rfl (lv_at hl 0 rfl) ?_
      refine j_iconst hC (pc := 26) dX3_without_26 ?_
      refine M_callv (As := [.int (iI (0))]) (rest := []) hC hX hM ho (m3_sets D T N l _ _ 0 (by omega)) (cwV 1 hC.ts (lw_V q1064 q1066 qs18 q46 q1067) rfl rfl rfl (by decide +kernel) ⟨Nat.le_of_ble_eq_true rfl, Nat.le_of_ble_eq_true rfl⟩) rfl hl.1 (Nat.le_of_ble_eq_true rfl) dX3_without_27 ⟨Nat.zero_le _, Nat.zero_le _⟩ (fun F5 V5 g H locs hp hX hM ho => ?_)
      have hP : PW F V (V 2) 0 (F 5) F5 V5 := ⟨⟨hI, hI.w2, (by omega), hI.nums.2.2.2.1⟩, ⟨by rw [hp.1]; exact ch.rf.up 8 _ (by decide), hp.2.1, by rw [hp.1]; rfl⟩, fun j a b => (hp.2.2 j a b).1, fun j a b => (hp.2.2 j a b).2⟩
      refine lv_iload_n hx hb (pc := 30) dX3_without_30 rfl (lv_at hl 1 rfl) ?_
      refine lv_istore_n (lv' := [(2, .int (iI (pl))), (0, .ref (m)), (1, .int (iI (pl)))]) hx hb (pc := 31) dX3_without_31 rfl hl (by decide) rfl (fun ls hl => ?_)
      have L32 : ∀ (fu : Nat) (i : Int) (Vy5 : Nat → Int → Int), 2 - i < (fu : Int) → (pl ≤ i ∧ i ≤ 2) → (ch V5 Vy5 [3]) → (∀ j : Int, 0 ≤ j → j < 6 → Vy5 3 j = if pl ≤ j ∧ j < i then V 2 (j + 1) else V 2 j) → ∀ (g : GH) (H : Heap) (locs : List Loc), Wd D (gA g0 n) s g n H locs → mR T g m F5 Vy5 → off g0 g m 27 → ∀ (ls : Array Slot), lv_has ls 3 [(2, .int (iI (i))), (0, .ref (m)), (1, .int (iI (pl)))] → W p l e ({ frames := 4, cells := 0, slots := 0, locals := 102 } : Room) s mi args below meth c H locs 0 0 Q (F0 mi 32 ls []) := by
        intro fu
        induction fu with
        | zero =>
          intro i Vy5 hfu hi hc5 hd5 g H locs hX hM ho ls hl
          exfalso
          omega
        | succ fu ih32 =>
          intro i Vy5 hfu hi hc5 hd5 g H locs hX hM ho ls hl
          refine lv_iload_n hx hb (pc := 32) dX3_without_32 rfl (lv_at hl 0 rfl) ?_
          refine j_iconst hC (pc := 33) dX3_without_33 ?_
          refine j_icmp_ge hC (pc := 34) 57 dX3_without_34 (by decide) (by omega) (fun c6 => ?_) (fun c6 => ?_)
          · skip
            refine lv_aload_n hx hb (pc := 57) dX3_without_57 rfl (lv_at hl 1 rfl) ?_
            refine M_get hC hX hM (pc := 58) 6 (by decide) q894 rfl (v := .ref (m + 3)) rfl dX3_without_58 ?_
            refine j_iconst hC (pc := 61) dX3_without_61 ?_
            refine j_iconst hC (pc := 62) dX3_without_62 ?_
            refine M_iast hC hX hM ho (pc := 63) 3 (by decide) (L := 6) ⟨rfl, by decide⟩ (by omega) dX3_without_63 (fun g H locs hX hM ho => ?_)
            have hP : PW F V (whW V pl) 0 (F 5) F5 (va_up Vy5 3 (uI (Vy5 3) 2 (-1))) := ⟨⟨hI, hI.wW pl, by decide, hI.nums.2.2.2.1⟩, ⟨hP.2.1.1, (ch.tr (ks := [3, 4]) hP.2.1.2.1 hc5 (by decide)).up 3 (uI (Vy5 3) 2 (-1)) (by decide), hP.2.1.2.2⟩, fun j a b => by show uI (Vy5 3) 2 (-1) j = _; unfold uI whW; split; rfl; rw [hd5 j a b]; (repeat' split) <;> first | rfl | omega, fun j a b => by show Vy5 4 j = _; rw [hc5 4 (by decide)]; exact hP.2.2.2 j a b⟩
            refine lv_aload_n hx hb (pc := 64) dX3_without_64 rfl (lv_at hl 1 rfl) ?_
            refine M_calli (As := []) (rest := []) hC hX hM ho (m3_works D T N l _ _ _ _ _ _ hP.su hP.sl hP.I hP.W hP.2.2.1 hP.1.2.2.1 hP.2.2.2 hP.st) (cwV 0 hC.ts (lw_V q1084 q1086 qs22 q46 q1087) rfl rfl rfl (by decide +kernel) ⟨Nat.le_of_ble_eq_true rfl, Nat.le_of_ble_eq_true rfl⟩) rfl hl.1 (Nat.le_of_ble_eq_true rfl) dX3_without_65 ⟨Nat.zero_le _, Nat.zero_le _⟩ (fun r7 F8 V8 g H locs hp hX hM ho => ?_)
            have hw := hP.post hp
            have hr5 := hw.two
            refine j_if_eq hC (pc := 68) 76 dX3_without_68 (by decide) (by omega) (fun c9 => ?_) (fun c9 => ?_)
            · skip
              refine lv_aload_n hx hb (pc := 76) dX3_without_76 rfl (lv_at hl 1 rfl) ?_
              refine M_calli (As := []) (rest := []) hC hX hM ho (m3_chanceOf D T N l _ _ _ _ _ hw.2.1 (hw.fine (by omega)).2.1 (hw.fine (by omega)).2.2.2.2.1 rfl (hw.fine (by omega)).2.2.2.2.2.1 (hw.fine (by omega)).2.2.2.2.2.2) (cwV 0 hC.ts (lw_V q1147 q1149 qs34 q46 q1150) rfl rfl rfl (by decide +kernel) ⟨Nat.le_of_ble_eq_true rfl, Nat.le_of_ble_eq_true rfl⟩) rfl hl.1 (Nat.le_of_ble_eq_true rfl) dX3_without_77 ⟨Nat.zero_le _, Nat.zero_le _⟩ (fun r10 F11 V11 g H locs hp hX hM ho => ?_)
              obtain ⟨hp, hF_, hV_⟩ := hp
              rw [hF_, hV_] at hM
              subst hQ
              exact j_iret hC (pc := 80) hX hr hlk (Nat.le_refl _) (Nat.le_refl _) dX3_without_80 ⟨rfl, _, _, hM, ho, ⟨by unfold op_without; rw [if_pos (by omega)]; rw [hp]; exact (hw.odd (by omega)).symm, ch.wd hw.1.1 (by decide), ch.wd hw.1.2 (by decide)⟩⟩
            · skip
              refine j_bipush hC (pc := 71) dX3_without_71 (by decide) ?_
              refine j_goto hC (pc := 73) 80 dX3_without_73 (by decide) ?_
              subst hQ
              exact j_iret hC (pc := 80) hX hr hlk (Nat.le_refl _) (Nat.le_refl _) dX3_without_80 ⟨rfl, _, _, hM, ho, ⟨by unfold op_without; rw [if_pos (by omega)]; exact (hw.wide (by omega)).1.symm, ch.wd hw.1.1 (by decide), ch.wd hw.1.2 (by decide)⟩⟩
          · skip
            refine lv_aload_n hx hb (pc := 37) dX3_without_37 rfl (lv_at hl 1 rfl) ?_
            refine M_get hC hX hM (pc := 38) 6 (by decide) q894 rfl (v := .ref (m + 3)) rfl dX3_without_38 ?_
            refine lv_iload_n hx hb (pc := 41) dX3_without_41 rfl (lv_at hl 0 rfl) ?_
            refine lv_aload_n hx hb (pc := 42) dX3_without_42 rfl (lv_at hl 1 rfl) ?_
            refine M_get hC hX hM (pc := 43) 6 (by decide) q894 rfl (v := .ref (m + 3)) rfl dX3_without_43 ?_
            refine lv_iload_n hx hb (pc := 46) dX3_without_46 rfl (lv_at hl 0 rfl) ?_
            refine j_iconst hC (pc := 47) dX3_without_47 ?_
            refine j_iadd hC (pc := 48) dX3_without_48 ?_
            refine M_iald hC hX hM (pc := 49) 3 (by decide) (L := 6) ⟨rfl, by decide⟩ (by omega) (z := Vy5 3 (i + 1)) rfl dX3_without_49 ?_
            refine M_iast hC hX hM ho (pc := 50) 3 (by decide) (L := 6) ⟨rfl, by decide⟩ (by omega) dX3_without_50 (fun g H locs hX hM ho => ?_)
            refine j_iinc hC (pc := 51) (lv' := [(2, .int (iI (i + 1))), (0, .ref (m)), (1, .int (iI (pl)))]) dX3_without_51 hl (k := 0) rfl (by decide) rfl (fun ls hl => ?_)
            refine j_goto hC (pc := 54) 32 dX3_without_54 (by decide) ?_
            exact ih32 (i + 1) _ (by omega) (by omega) (hc5.up 3 _ (by decide)) (fun j a b => by show uI (Vy5 3) i (Vy5 3 (i + 1)) j = _; unfold uI; split; rename_i q; rw [q, hd5 (i + 1) (by omega) (by omega), if_neg (by omega), if_pos (by omega)]; rw [hd5 j a b]; split; rw [if_pos (by omega)]; rw [if_neg (by omega)]) _ _ _ hX hM ho ls (lv_sub hl [0, 1, 2] rfl)
      exact L32 ((2 - pl : Int).toNat + 1) pl _ (by omega) (by omega) ch.rf (fun j a b => by rw [if_neg (by omega)]; exact hP.2.2.1 j a b) _ _ _ hX hM ho ls (lv_sub hl [0, 1, 2] rfl)
    · skip
      refine j_bipush hC (pc := 22) dX3_without_22 (by decide) ?_
      subst hQ
      exact j_iret hC (pc := 24) hX hr hlk (Nat.le_refl _) (Nat.le_refl _) dX3_without_24 ⟨rfl, _, _, hM, ho, ⟨by unfold op_without; rw [if_neg (by omega)], ch.rf, ch.rf⟩⟩

set_option maxHeartbeats 4000000 in
set_option maxRecDepth 100000 in
theorem m3_oddsOf (D : va_G) (T N : Nat → Nat) (l : Launch) {m : Nat} (F : Nat → Int) (V : Nat → Int → Int) (k b : Int) (hI : SI F V) (hk : 0 ≤ k ∧ k < F 25) (hb_ : b = 0 ∨ b = 1) : MMi D T N l yX3_oddsOf (ws_ yX3_oddsOf cX3_oddsOf 4 (some .int)) ({ frames := 4, cells := 0, slots := 0, locals := 102 } : Room) m [.int (iI (k)), .int (iI (b))] F V (fun r F' V' => r = oddO F V k b ∧ ch F F' scW ∧ ch V V' scX) := by
  intro g0 n hM
  refine j_start (by decide) (Nat.le_of_ble_eq_true rfl) ?_
  intro p e s mi args below meth c hC hr hlk hnm hX ls hl
  have hC : Ct D T N (gA g0 n) p s mi args c cX3_oddsOf RX3 4 := hC
  have hx := hC.x
  have hb := hC.b
  have ho : off g0 g0 m 27 := off.rf
  generalize hQ : MQ below _ args s 0 0 (gA g0 n) = Q
  have hl : lv_has ls 4 [(0, .ref (m)), (1, .int (iI (k))), (2, .int (iI (b)))] := hl
  have hn := hI.nums
  refine lv_aload_n hx hb (pc := 0) dX3_oddsOf_0 rfl (lv_at hl 0 rfl) ?_
  refine lv_iload_n hx hb (pc := 1) dX3_oddsOf_1 rfl (lv_at hl 2 rfl) ?_
  have J13 : ∀ (bo : Int), (bo = if b = 0 then 0 else F 28) → ∀ (g : GH) (H : Heap) (locs : List Loc), Wd D (gA g0 n) s g n H locs → mR T g m F V → off g0 g m 27 → ∀ (ls : Array Slot), lv_has ls 4 [(0, .ref (m)), (1, .int (iI (k))), (2, .int (iI (b)))] → W p l e ({ frames := 4, cells := 0, slots := 0, locals := 102 } : Room) s mi args below meth c H locs 0 0 Q (F0 mi 13 ls [.int (iI (bo)), .ref (m)]) := by
    intro bo hbo g H locs hX hM ho ls hl
    have hbr : 0 ≤ bo ∧ bo ≤ 9 := by split at hbo <;> omega
    refine M_callv (As := [.int (iI (bo))]) (rest := []) hC hX hM ho (m3_sets D T N l _ _ bo (by omega)) (cwV 1 hC.ts (lw_V q1064 q1066 qs18 q46 q1067) rfl rfl rfl (by decide +kernel) ⟨Nat.le_of_ble_eq_true rfl, Nat.le_of_ble_eq_true rfl⟩) rfl hl.1 (Nat.le_of_ble_eq_true rfl) dX3_oddsOf_13 ⟨Nat.zero_le _, Nat.zero_le _⟩ (fun F2 V2 g H locs hp hX hM ho => ?_)
    have hP : PW F V (V 2) bo (F 5) F2 V2 := ⟨⟨hI, hI.w2, (by omega), hI.nums.2.2.2.1⟩, ⟨by rw [hp.1]; exact ch.rf.up 8 _ (by decide), hp.2.1, by rw [hp.1]; rfl⟩, fun j a b => (hp.2.2 j a b).1, fun j a b => (hp.2.2 j a b).2⟩
    refine j_iconst hC (pc := 16) dX3_oddsOf_16 ?_
    refine lv_istore_n (lv' := [(3, .int (iI (0))), (0, .ref (m)), (1, .int (iI (k))), (2, .int (iI (b)))]) hx hb (pc := 17) dX3_oddsOf_17 rfl hl (by decide) rfl (fun ls hl => ?_)
    have L18 : ∀ (fu : Nat) (i : Int) (Vy5 : Nat → Int → Int), 3 - i < (fu : Int) → (0 ≤ i ∧ i ≤ 3) → (ch V2 Vy5 [3]) → (∀ j : Int, 0 ≤ j → j < 6 → Vy5 3 j = if 3 ≤ j ∧ j < 3 + i then V 17 (3 * k + (j - 3)) else V 2 j) → ∀ (g : GH) (H : Heap) (locs : List Loc), Wd D (gA g0 n) s g n H locs → mR T g m F2 Vy5 → off g0 g m 27 → ∀ (ls : Array Slot), lv_has ls 4 [(3, .int (iI (i))), (0, .ref (m)), (1, .int (iI (k))), (2, .int (iI (b)))] → W p l e ({ frames := 4, cells := 0, slots := 0, locals := 102 } : Room) s mi args below meth c H locs 0 0 Q (F0 mi 18 ls []) := by
      intro fu
      induction fu with
      | zero =>
        intro i Vy5 hfu hi hc5 hd5 g H locs hX hM ho ls hl
        exfalso
        omega
      | succ fu ih18 =>
        intro i Vy5 hfu hi hc5 hd5 g H locs hX hM ho ls hl
        have e17 : Vy5 17 = V 17 := (hc5 17 (by decide)).trans (hP.2.1.2.1 17 (by decide))
        refine lv_iload_n hx hb (pc := 18) dX3_oddsOf_18 rfl (lv_at hl 0 rfl) ?_
        refine j_iconst hC (pc := 19) dX3_oddsOf_19 ?_
        refine j_icmp_ge hC (pc := 20) 47 dX3_oddsOf_20 (by decide) (by omega) (fun c3 => ?_) (fun c3 => ?_)
        · skip
          have hP : PW F V (whO V k) bo (F 5) F2 Vy5 := ⟨⟨hI, hI.wO hk, by omega, hI.nums.2.2.2.1⟩, ⟨hP.2.1.1, ch.tr (ks := [3, 4]) hP.2.1.2.1 hc5 (by decide), hP.2.1.2.2⟩, fun j a b => by rw [hd5 j a b]; unfold whO; split; rw [if_pos (by omega)]; rw [if_neg (by omega)], fun j a b => by rw [hc5 4 (by decide)]; exact hP.2.2.2 j a b⟩
          refine lv_aload_n hx hb (pc := 47) dX3_oddsOf_47 rfl (lv_at hl 1 rfl) ?_
          refine M_calli (As := []) (rest := []) hC hX hM ho (m3_works D T N l _ _ _ _ _ _ hP.su hP.sl hP.I hP.W hP.2.2.1 hP.1.2.2.1 hP.2.2.2 hP.st) (cwV 0 hC.ts (lw_V q1084 q1086 qs22 q46 q1087) rfl rfl rfl (by decide +kernel) ⟨Nat.le_of_ble_eq_true rfl, Nat.le_of_ble_eq_true rfl⟩) rfl hl.1 (Nat.le_of_ble_eq_true rfl) dX3_oddsOf_48 ⟨Nat.zero_le _, Nat.zero_le _⟩ (fun r4 F5 V5 g H locs hp hX hM ho => ?_)
          have hw := hP.post hp
          have hr5 := hw.two
          refine j_if_eq hC (pc := 51) 59 dX3_oddsOf_51 (by decide) (by omega) (fun c6 => ?_) (fun c6 => ?_)
          · skip
            refine lv_aload_n hx hb (pc := 59) dX3_oddsOf_59 rfl (lv_at hl 1 rfl) ?_
            refine M_calli (As := []) (rest := []) hC hX hM ho (m3_chanceOf D T N l _ _ _ _ _ hw.2.1 (hw.fine (by omega)).2.1 (hw.fine (by omega)).2.2.2.2.1 rfl (hw.fine (by omega)).2.2.2.2.2.1 (hw.fine (by omega)).2.2.2.2.2.2) (cwV 0 hC.ts (lw_V q1147 q1149 qs34 q46 q1150) rfl rfl rfl (by decide +kernel) ⟨Nat.le_of_ble_eq_true rfl, Nat.le_of_ble_eq_true rfl⟩) rfl hl.1 (Nat.le_of_ble_eq_true rfl) dX3_oddsOf_60 ⟨Nat.zero_le _, Nat.zero_le _⟩ (fun r7 F8 V8 g H locs hp hX hM ho => ?_)
            obtain ⟨hp, hF_, hV_⟩ := hp
            rw [hF_, hV_] at hM
            subst hQ
            exact j_iret hC (pc := 63) hX hr hlk (Nat.le_refl _) (Nat.le_refl _) dX3_oddsOf_63 ⟨rfl, _, _, hM, ho, ⟨by rw [hp]; unfold oddO; rw [← hbo]; exact (hw.odd (by omega)).symm, hw.1.1, hw.1.2⟩⟩
          · skip
            refine j_bipush hC (pc := 54) dX3_oddsOf_54 (by decide) ?_
            refine j_goto hC (pc := 56) 63 dX3_oddsOf_56 (by decide) ?_
            subst hQ
            exact j_iret hC (pc := 63) hX hr hlk (Nat.le_refl _) (Nat.le_refl _) dX3_oddsOf_63 ⟨rfl, _, _, hM, ho, ⟨by unfold oddO; rw [← hbo]; exact (hw.wide (by omega)).1.symm, hw.1.1, hw.1.2⟩⟩
        · skip
          refine lv_aload_n hx hb (pc := 23) dX3_oddsOf_23 rfl (lv_at hl 1 rfl) ?_
          refine M_get hC hX hM (pc := 24) 6 (by decide) q894 rfl (v := .ref (m + 3)) rfl dX3_oddsOf_24 ?_
          refine j_iconst hC (pc := 27) dX3_oddsOf_27 ?_
          refine lv_iload_n hx hb (pc := 28) dX3_oddsOf_28 rfl (lv_at hl 0 rfl) ?_
          refine j_iadd hC (pc := 29) dX3_oddsOf_29 ?_
          refine lv_aload_n hx hb (pc := 30) dX3_oddsOf_30 rfl (lv_at hl 1 rfl) ?_
          refine M_get hC hX hM (pc := 31) 26 (by decide) q914 rfl (v := .ref (m + 17)) rfl dX3_oddsOf_31 ?_
          refine j_iconst hC (pc := 34) dX3_oddsOf_34 ?_
          refine lv_iload_n hx hb (pc := 35) dX3_oddsOf_35 rfl (lv_at hl 2 rfl) ?_
          refine j_imul hC (pc := 36) dX3_oddsOf_36 ?_
          refine lv_iload_n hx hb (pc := 37) dX3_oddsOf_37 rfl (lv_at hl 0 rfl) ?_
          refine j_iadd hC (pc := 38) dX3_oddsOf_38 ?_
          refine M_iald hC hX hM (pc := 39) 17 (by decide) (L := 18) ⟨rfl, by decide⟩ (by omega) (z := Vy5 17 ((3 * k) + i)) rfl dX3_oddsOf_39 ?_
          refine M_iast hC hX hM ho (pc := 40) 3 (by decide) (L := 6) ⟨rfl, by decide⟩ (by omega) dX3_oddsOf_40 (fun g H locs hX hM ho => ?_)
          refine j_iinc hC (pc := 41) (lv' := [(3, .int (iI (i + 1))), (0, .ref (m)), (1, .int (iI (k))), (2, .int (iI (b)))]) dX3_oddsOf_41 hl (k := 0) rfl (by decide) rfl (fun ls hl => ?_)
          refine j_goto hC (pc := 44) 18 dX3_oddsOf_44 (by decide) ?_
          exact ih18 (i + 1) _ (by omega) (by omega) (hc5.up 3 _ (by decide)) (fun j a b => by show uI (Vy5 3) (3 + i) (Vy5 17 (3 * k + i)) j = _; unfold uI; split; rename_i q; rw [q, if_pos (by omega), e17, show 3 + i - 3 = i by omega]; rw [hd5 j a b]; split; rw [if_pos (by omega)]; rw [if_neg (by omega)]) _ _ _ hX hM ho ls (lv_sub hl [0, 1, 2, 3] rfl)
    exact L18 ((3 - 0 : Int).toNat + 1) 0 _ (by omega) (by omega) ch.rf (fun j a b => by rw [if_neg (by omega)]; exact hP.2.2.1 j a b) _ _ _ hX hM ho ls (lv_sub hl [0, 1, 2, 3] rfl)
  refine j_if_eq hC (pc := 2) 12 dX3_oddsOf_2 (by decide) (by omega) (fun c9 => ?_) (fun c9 => ?_)
  · skip
    refine j_iconst hC (pc := 12) dX3_oddsOf_12 ?_
    exact J13 0 (by rw [if_pos (by omega)]) _ _ _ hX hM ho ls (lv_sub hl [0, 1, 2] rfl)
  · skip
    refine lv_aload_n hx hb (pc := 5) dX3_oddsOf_5 rfl (lv_at hl 0 rfl) ?_
    refine M_get hC hX hM (pc := 6) 28 (by decide) q916 rfl (v := .int (iI (F 28))) rfl dX3_oddsOf_6 ?_
    refine j_goto hC (pc := 9) 13 dX3_oddsOf_9 (by decide) ?_
    exact J13 (F 28) (by rw [if_neg (by omega)]) _ _ _ hX hM ho ls (lv_sub hl [0, 1, 2] rfl)

set_option maxHeartbeats 4000000 in
set_option maxRecDepth 100000 in
theorem m3_odds (D : va_G) (T N : Nat → Nat) (l : Launch) {m : Nat} (F : Nat → Int) (V : Nat → Int → Int) (f b : Int) (hI : SI F V) (hg : (-2147483648 ≤ f ∧ f ≤ 2147483647) ∧ (-2147483648 ≤ b ∧ b ≤ 2147483647)) : MMi D T N l yX3_odds (ws_ yX3_odds cX3_odds 3 (some .int)) ({ frames := 5, cells := 0, slots := 0, locals := 125 } : Room) m [.int (iI (f)), .int (iI (b))] F V (mP (op_odds F V f b)) := by
  intro g0 n hM
  refine j_start (by decide) (Nat.le_of_ble_eq_true rfl) ?_
  intro p e s mi args below meth c hC hr hlk hnm hX ls hl
  have hC : Ct D T N (gA g0 n) p s mi args c cX3_odds RX3 3 := hC
  have hx := hC.x
  have hb := hC.b
  have ho : off g0 g0 m 27 := off.rf
  generalize hQ : MQ below _ args s 0 0 (gA g0 n) = Q
  have hl : lv_has ls 3 [(0, .ref (m)), (1, .int (iI (f))), (2, .int (iI (b)))] := hl
  have hn := hI.nums
  have h2_ := hI.i2 (i := 0) (by omega)
  refine lv_iload_n hx hb (pc := 0) dX3_odds_0 rfl (lv_at hl 1 rfl) ?_
  refine j_i2l hC (pc := 1) dX3_odds_1 (by omega) ?_
  refine j_lconst hC (pc := 2) (w := 0) dX3_odds_2 rfl ?_
  refine lv_aload_n hx hb (pc := 3) dX3_odds_3 rfl (lv_at hl 0 rfl) ?_
  refine M_get hC hX hM (pc := 4) 25 (by decide) q913 rfl (v := .int (iI (F 25))) rfl dX3_odds_4 ?_
  refine j_iconst hC (pc := 7) dX3_odds_7 ?_
  refine j_isub hC (pc := 8) dX3_odds_8 ?_
  refine j_i2l hC (pc := 9) dX3_odds_9 (by omega) ?_
  refine S_calli (As := [.long (lI (f)), .long (lI (0)), .long (lI ((F 25) - 1))]) (rest := []) hC hX (m3_in D T N l f 0 ((F 25) - 1) (by omega)) (va_cwS 3 hC.ts (lw_S q1020 q1021 q46 q1022) rfl rfl rfl (by decide +kernel) ⟨Nat.le_of_ble_eq_true rfl, Nat.le_of_ble_eq_true rfl⟩) rfl hl.1 (Nat.le_of_ble_eq_true rfl) dX3_odds_10 ⟨Nat.zero_le _, Nat.zero_le _⟩ (fun r1 H locs hp hX => ?_)
  have hq_r1 := inF_of hp
  refine j_if_eq hC (pc := 13) 26 dX3_odds_13 (by decide) (by omega) (fun c2 => ?_) (fun c2 => ?_)
  · skip
    refine j_bipush hC (pc := 26) dX3_odds_26 (by decide) ?_
    subst hQ
    exact j_iret hC (pc := 28) hX hr hlk (Nat.le_refl _) (Nat.le_refl _) dX3_odds_28 ⟨rfl, _, _, hM, ho, ⟨by unfold op_odds; rw [if_neg (by omega)], ch.rf, ch.rf⟩⟩
  · skip
    refine lv_iload_n hx hb (pc := 16) dX3_odds_16 rfl (lv_at hl 2 rfl) ?_
    refine j_i2l hC (pc := 17) dX3_odds_17 (by omega) ?_
    refine j_lconst hC (pc := 18) (w := 0) dX3_odds_18 rfl ?_
    refine j_lconst hC (pc := 19) (w := 1) dX3_odds_19 rfl ?_
    refine S_calli (As := [.long (lI (b)), .long (lI (0)), .long (lI (1))]) (rest := []) hC hX (m3_in D T N l b 0 1 (by omega)) (va_cwS 3 hC.ts (lw_S q1020 q1021 q46 q1022) rfl rfl rfl (by decide +kernel) ⟨Nat.le_of_ble_eq_true rfl, Nat.le_of_ble_eq_true rfl⟩) rfl hl.1 (Nat.le_of_ble_eq_true rfl) dX3_odds_20 ⟨Nat.zero_le _, Nat.zero_le _⟩ (fun r3 H locs hp hX => ?_)
    have hq_r3 := inF_of hp
    refine j_if_ne hC (pc := 23) 29 dX3_odds_23 (by decide) (by omega) (fun c4 => ?_) (fun c4 => ?_)
    · skip
      refine lv_aload_n hx hb (pc := 29) dX3_odds_29 rfl (lv_at hl 0 rfl) ?_
      refine M_get hC hX hM (pc := 30) 2 (by decide) q890 rfl (v := .ref (m + 2)) rfl dX3_odds_30 ?_
      refine j_iconst hC (pc := 33) dX3_odds_33 ?_
      refine M_iald hC hX hM (pc := 34) 2 (by decide) (L := 6) ⟨rfl, by decide⟩ (by omega) (z := V 2 0) rfl dX3_odds_34 ?_
      refine j_iconst hC (pc := 35) dX3_odds_35 ?_
      refine j_icmp_ne hC (pc := 36) 44 dX3_odds_36 (by decide) (by omega) (fun c5 => ?_) (fun c5 => ?_)
      · skip
        refine lv_aload_n hx hb (pc := 44) dX3_odds_44 rfl (lv_at hl 0 rfl) ?_
        refine lv_iload_n hx hb (pc := 45) dX3_odds_45 rfl (lv_at hl 1 rfl) ?_
        refine lv_iload_n hx hb (pc := 46) dX3_odds_46 rfl (lv_at hl 2 rfl) ?_
        refine j_iconst hC (pc := 47) dX3_odds_47 ?_
        refine j_icmp_ne hC (pc := 48) 55 dX3_odds_48 (by decide) (by omega) (fun c6 => ?_) (fun c6 => ?_)
        · skip
          refine j_iconst hC (pc := 55) dX3_odds_55 ?_
          refine M_calli (As := [.int (iI (f)), .int (iI (0))]) (rest := []) hC hX hM ho (m3_oddsOf D T N l _ _ f 0 hI (by omega) (by omega)) (cwV 2 hC.ts (lw_V q1199 q1201 qs36 q46 q1202) rfl rfl rfl (by decide +kernel) ⟨Nat.le_of_ble_eq_true rfl, Nat.le_of_ble_eq_true rfl⟩) rfl hl.1 (Nat.le_of_ble_eq_true rfl) dX3_odds_56 ⟨Nat.zero_le _, Nat.zero_le _⟩ (fun r7 F8 V8 g H locs hp hX hM ho => ?_)
          subst hQ
          exact j_iret hC (pc := 59) hX hr hlk (Nat.le_refl _) (Nat.le_refl _) dX3_odds_59 ⟨rfl, _, _, hM, ho, ⟨by unfold op_odds; rw [if_pos (by omega), if_neg (by omega), show b = 0 by omega]; exact hp.1, ch.wd hp.2.1 (by decide), ch.wd hp.2.2 (by decide)⟩⟩
        · skip
          refine j_iconst hC (pc := 51) dX3_odds_51 ?_
          refine j_goto hC (pc := 52) 56 dX3_odds_52 (by decide) ?_
          refine M_calli (As := [.int (iI (f)), .int (iI (1))]) (rest := []) hC hX hM ho (m3_oddsOf D T N l _ _ f 1 hI (by omega) (by omega)) (cwV 2 hC.ts (lw_V q1199 q1201 qs36 q46 q1202) rfl rfl rfl (by decide +kernel) ⟨Nat.le_of_ble_eq_true rfl, Nat.le_of_ble_eq_true rfl⟩) rfl hl.1 (Nat.le_of_ble_eq_true rfl) dX3_odds_56 ⟨Nat.zero_le _, Nat.zero_le _⟩ (fun r9 F10 V10 g H locs hp hX hM ho => ?_)
          subst hQ
          exact j_iret hC (pc := 59) hX hr hlk (Nat.le_refl _) (Nat.le_refl _) dX3_odds_59 ⟨rfl, _, _, hM, ho, ⟨by unfold op_odds; rw [if_pos (by omega), if_neg (by omega), show b = 1 by omega]; exact hp.1, ch.wd hp.2.1 (by decide), ch.wd hp.2.2 (by decide)⟩⟩
      · skip
        refine j_bipush hC (pc := 39) dX3_odds_39 (by decide) ?_
        refine j_goto hC (pc := 41) 59 dX3_odds_41 (by decide) ?_
        subst hQ
        exact j_iret hC (pc := 59) hX hr hlk (Nat.le_refl _) (Nat.le_refl _) dX3_odds_59 ⟨rfl, _, _, hM, ho, ⟨by unfold op_odds; rw [if_pos (by omega), if_pos (by omega)], ch.rf, ch.rf⟩⟩
    · skip
      refine j_bipush hC (pc := 26) dX3_odds_26 (by decide) ?_
      subst hQ
      exact j_iret hC (pc := 28) hX hr hlk (Nat.le_refl _) (Nat.le_refl _) dX3_odds_28 ⟨rfl, _, _, hM, ho, ⟨by unfold op_odds; rw [if_neg (by omega)], ch.rf, ch.rf⟩⟩
