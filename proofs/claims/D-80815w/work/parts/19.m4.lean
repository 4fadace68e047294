/-! FairFightModel: states come to -/
set_option maxHeartbeats 4000000 in
set_option maxRecDepth 100000 in
theorem m3_comes (D : va_G) (T N : Nat → Nat) (l : Launch) {m : Nat} (F : Nat → Int) (V : Nat → Int → Int) (n_ : Int) (NL : List (Int × Int)) (hO : okS (V 6) (V 7)) (hN : NLI (F 16) V NL) (hL : F 16 < 800) : MMv D T N l yX3_comes (ws_ yX3_comes cX3_comes 6 none) ({ frames := 1, cells := 0, slots := 0, locals := 23 } : Room) m [.long (lI (n_))] F V (fun F' V' => ch F F' [16] ∧ ch V V' [10, 11, 12] ∧ NLI (F' 16) V' (insN NL (pkF (V 6) (V 7) 6) n_) ∧ F' 16 ≤ F 16 + 1) := by
  intro g0 n hM
  refine j_start (by decide) (Nat.le_of_ble_eq_true rfl) ?_
  intro p e s mi args below meth c hC hr hlk hnm hX ls hl
  have hC : Ct D T N (gA g0 n) p s mi args c cX3_comes RX3 6 := hC
  have hx := hC.x
  have hb := hC.b
  have ho : off g0 g0 m 27 := off.rf
  generalize hQ : MQ below _ args s 0 0 (gA g0 n) = Q
  have hl : lv_has ls 6 [(0, .ref (m)), (1, .long (lI (n_)))] := hl
  refine lv_aload_n hx hb (pc := 0) dX3_comes_0 rfl (lv_at hl 0 rfl) ?_
  refine M_calll (As := []) (rest := []) hC hX hM ho (m3_pack D T N l _ _ hO) (cwV 0 hC.ts (lw_V q1096 q1098 qs25 q46 q1099) rfl rfl rfl (by decide +kernel) ⟨Nat.le_of_ble_eq_true rfl, Nat.le_of_ble_eq_true rfl⟩) rfl hl.1 (Nat.le_of_ble_eq_true rfl) dX3_comes_1 ⟨Nat.zero_le _, Nat.zero_le _⟩ (fun r1 F2 V2 g H locs hp hX hM ho => ?_)
  obtain ⟨hp, hF_, hV_⟩ := hp
  rw [hF_, hV_] at hM
  have hc_ := pk_rg hO (i := 6) (by omega)
  rw [show (6 : Int).toNat = 6 from rfl, ← hp] at hc_
  refine lv_lstore_n (lv' := [(3, .long (lI (r1))), (0, .ref (m)), (1, .long (lI (n_)))]) hx hb (pc := 4) dX3_comes_4 rfl hl (by decide) rfl (fun ls hl => ?_)
  refine lv_lload_n hx hb (pc := 5) dX3_comes_5 rfl (lv_at hl 0 rfl) ?_
  refine j_ldc2 hC (pc := 6) (z := 2654435761) q1113 dX3_comes_6 rfl ?_
  refine j_lmul hC (pc := 9) dX3_comes_9 ?_
  refine j_bipush hC (pc := 10) dX3_comes_10 (by decide) ?_
  refine lv_lshr hx hb (pc := 12) dX3_comes_12 rfl ?_
  refine j_ldc2 hC (pc := 13) (z := 2047) q1114 dX3_comes_13 rfl ?_
  refine j_land2047m hC (pc := 16) dX3_comes_16 ?_
  refine j_l2i hC (pc := 17) dX3_comes_17 ?_
  refine j_eqi (b := prb (hsM r1) 0) (prb_0 (hsM_rg r1)).symm ?_
  refine lv_istore (lv' := [(5, .int (iI (prb (hsM r1) 0))), (3, .long (lI (r1))), (0, .ref (m)), (1, .long (lI (n_)))]) hx hb (pc := 18) dX3_comes_18 hl (by decide) rfl (fun ls hl => ?_)
  have L20 : ∀ (fu : Nat) (d : Nat), 2048 - (d : Int) < (fu : Int) → (d < 2048) → (∀ e : Nat, e < d → V 12 (prb (hsM r1) e) ≠ 0 ∧ ∀ x : Int × Int, NL[(V 12 (prb (hsM r1) e) - 1).toNat]? = some x → x.1 ≠ r1) → ∀ (g : GH) (H : Heap) (locs : List Loc), Wd D (gA g0 n) s g n H locs → mR T g m F V → off g0 g m 27 → ∀ (ls : Array Slot), lv_has ls 6 [(5, .int (iI (prb (hsM r1) d))), (3, .long (lI (r1))), (0, .ref (m)), (1, .long (lI (n_)))] → W p l e ({ frames := 1, cells := 0, slots := 0, locals := 23 } : Room) s mi args below meth c H locs 0 0 Q (F0 mi 20 ls []) := by
    intro fu
    induction fu with
    | zero =>
      intro d hfu hd hoc g H locs hX hM ho ls hl
      exfalso
      omega
    | succ fu ih =>
      intro d hfu hd hoc g H locs hX hM ho ls hl
      have ht_ := hN.2.2.2.1 (prb (hsM r1) d) (prb_rg _ _).1 (prb_rg _ _).2
      have hpr_ := prb_rg (hsM r1) d
      have hlen_ := hN.1
      refine lv_aload_n hx hb (pc := 20) dX3_comes_20 rfl (lv_at hl 2 rfl) ?_
      refine M_get hC hX hM (pc := 21) 19 (by decide) q907 rfl (v := .ref (m + 12)) rfl dX3_comes_21 ?_
      refine lv_iload hx hb (pc := 24) dX3_comes_24 (lv_at hl 0 rfl) ?_
      refine M_iald hC hX hM (pc := 26) 12 (by decide) (L := 2048) ⟨rfl, by decide⟩ (by omega) (z := V 12 (prb (hsM r1) d)) rfl dX3_comes_26 ?_
      refine j_if_le hC (pc := 27) 62 dX3_comes_27 (by decide) (by omega) (fun c3 => ?_) (fun c3 => ?_)
      · skip
        refine lv_aload_n hx hb (pc := 62) dX3_comes_62 rfl (lv_at hl 2 rfl) ?_
        refine M_get hC hX hM (pc := 63) 19 (by decide) q907 rfl (v := .ref (m + 12)) rfl dX3_comes_63 ?_
        refine lv_iload hx hb (pc := 66) dX3_comes_66 (lv_at hl 0 rfl) ?_
        refine M_iald hC hX hM (pc := 68) 12 (by decide) (L := 2048) ⟨rfl, by decide⟩ (by omega) (z := V 12 (prb (hsM r1) d)) rfl dX3_comes_68 ?_
        refine j_if_ne hC (pc := 69) 113 dX3_comes_69 (by decide) (by omega) (fun c4 => ?_) (fun c4 => ?_)
        · skip
          exfalso; omega
        · skip
          refine lv_aload_n hx hb (pc := 72) dX3_comes_72 rfl (lv_at hl 2 rfl) ?_
          refine M_get hC hX hM (pc := 73) 17 (by decide) q905 rfl (v := .ref (m + 10)) rfl dX3_comes_73 ?_
          refine lv_aload_n hx hb (pc := 76) dX3_comes_76 rfl (lv_at hl 2 rfl) ?_
          refine M_get hC hX hM (pc := 77) 16 (by decide) q904 rfl (v := .int (iI (F 16))) rfl dX3_comes_77 ?_
          refine lv_lload_n hx hb (pc := 80) dX3_comes_80 rfl (lv_at hl 1 rfl) ?_
          refine M_last hC hX hM ho (pc := 81) 10 (by decide) (L := 800) ⟨rfl, by decide⟩ (by omega) dX3_comes_81 (fun g H locs hX hM ho => ?_)
          refine lv_aload_n hx hb (pc := 82) dX3_comes_82 rfl (lv_at hl 2 rfl) ?_
          refine M_get hC hX hM (pc := 83) 18 (by decide) q906 rfl (v := .ref (m + 11)) rfl dX3_comes_83 ?_
          refine lv_aload_n hx hb (pc := 86) dX3_comes_86 rfl (lv_at hl 2 rfl) ?_
          refine M_get hC hX hM (pc := 87) 16 (by decide) q904 rfl (v := .int (iI (F 16))) rfl dX3_comes_87 ?_
          refine j_lconst hC (pc := 90) (w := 0) dX3_comes_90 rfl ?_
          refine M_last hC hX hM ho (pc := 91) 11 (by decide) (L := 800) ⟨rfl, by decide⟩ (by omega) dX3_comes_91 (fun g H locs hX hM ho => ?_)
          refine lv_aload_n hx hb (pc := 92) dX3_comes_92 rfl (lv_at hl 2 rfl) ?_
          refine lv_dup hx hb (pc := 93) dX3_comes_93 rfl ?_
          refine M_get hC hX hM (pc := 94) 16 (by decide) q904 rfl (v := .int (iI (F 16))) rfl dX3_comes_94 ?_
          refine j_iconst hC (pc := 97) dX3_comes_97 ?_
          refine j_iadd hC (pc := 98) dX3_comes_98 ?_
          refine M_put hC hX hM ho (pc := 99) 16 (by decide) q904 rfl dX3_comes_99 (fun g H locs hX hM ho => ?_)
          refine lv_aload_n hx hb (pc := 102) dX3_comes_102 rfl (lv_at hl 2 rfl) ?_
          refine M_get hC hX hM (pc := 103) 19 (by decide) q907 rfl (v := .ref (m + 12)) rfl dX3_comes_103 ?_
          refine lv_iload hx hb (pc := 106) dX3_comes_106 (lv_at hl 0 rfl) ?_
          refine lv_aload_n hx hb (pc := 108) dX3_comes_108 rfl (lv_at hl 2 rfl) ?_
          refine M_get hC hX hM (pc := 109) 16 (by decide) q904 rfl (v := .int (iI ((F 16) + 1))) rfl dX3_comes_109 ?_
          refine M_iast hC hX hM ho (pc := 112) 12 (by decide) (L := 2048) ⟨rfl, by decide⟩ (by omega) dX3_comes_112 (fun g H locs hX hM ho => ?_)
          refine lv_aload_n hx hb (pc := 113) dX3_comes_113 rfl (lv_at hl 2 rfl) ?_
          refine M_get hC hX hM (pc := 114) 18 (by decide) q906 rfl (v := .ref (m + 11)) rfl dX3_comes_114 ?_
          refine lv_aload_n hx hb (pc := 117) dX3_comes_117 rfl (lv_at hl 2 rfl) ?_
          refine M_get hC hX hM (pc := 118) 19 (by decide) q907 rfl (v := .ref (m + 12)) rfl dX3_comes_118 ?_
          refine lv_iload hx hb (pc := 121) dX3_comes_121 (lv_at hl 0 rfl) ?_
          refine M_iald hC hX hM (pc := 123) 12 (by decide) (L := 2048) ⟨rfl, by decide⟩ (by omega) (z := (uI (V 12) (prb (hsM r1) d) ((F 16) + 1)) (prb (hsM r1) d)) rfl dX3_comes_123 ?_
          refine j_eqi (b := (F 16) + 1) (uI_s _ _ _) ?_
          refine j_iconst hC (pc := 124) dX3_comes_124 ?_
          refine j_isub hC (pc := 125) dX3_comes_125 ?_
          refine j_eqi (b := F 16) (by omega) ?_
          refine lv_dup2_11 hx hb (pc := 126) dX3_comes_126 rfl rfl ?_
          refine M_lald hC hX hM (pc := 127) 11 (by decide) (L := 800) ⟨rfl, by decide⟩ (by omega) (z := (uI (V 11) (F 16) 0) (F 16)) rfl dX3_comes_127 ?_
          refine j_eql (b := 0) (uI_s _ _ _) ?_
          refine lv_lload_n hx hb (pc := 128) dX3_comes_128 rfl (lv_at hl 3 rfl) ?_
          refine j_ladd hC (pc := 129) dX3_comes_129 ?_
          refine M_last hC hX hM ho (pc := 130) 11 (by decide) (L := 800) ⟨rfl, by decide⟩ (by omega) dX3_comes_130 (fun g H locs hX hM ho => ?_)
          subst hQ
          exact j_vret hC (pc := 131) hX hr hlk (Nat.le_refl _) (Nat.le_refl _) dX3_comes_131 ⟨rfl, _, _, hM, ho, ⟨ch.rf.up 16 _ (by decide), (((ch.rf.up 10 _ (by decide)).up 11 _ (by decide)).up 12 _ (by decide)).up 11 _ (by decide), by rw [← hp]; exact hN.new (d := d) ⟨hc_.1, hc_.2.1⟩ hd (by omega) hoc rfl (fun j => by show uI (uI (V 11) (F 16) 0) (F 16) (0 + n_) j = _; unfold uI; split <;> simp_all) rfl, by show F 16 + 1 ≤ _; omega⟩⟩
      · skip
        refine lv_aload_n hx hb (pc := 30) dX3_comes_30 rfl (lv_at hl 2 rfl) ?_
        refine M_get hC hX hM (pc := 31) 17 (by decide) q905 rfl (v := .ref (m + 10)) rfl dX3_comes_31 ?_
        refine lv_aload_n hx hb (pc := 34) dX3_comes_34 rfl (lv_at hl 2 rfl) ?_
        refine M_get hC hX hM (pc := 35) 19 (by decide) q907 rfl (v := .ref (m + 12)) rfl dX3_comes_35 ?_
        refine lv_iload hx hb (pc := 38) dX3_comes_38 (lv_at hl 0 rfl) ?_
        refine M_iald hC hX hM (pc := 40) 12 (by decide) (L := 2048) ⟨rfl, by decide⟩ (by omega) (z := V 12 (prb (hsM r1) d)) rfl dX3_comes_40 ?_
        refine j_iconst hC (pc := 41) dX3_comes_41 ?_
        refine j_isub hC (pc := 42) dX3_comes_42 ?_
        refine M_lald hC hX hM (pc := 43) 10 (by decide) (L := 800) ⟨rfl, by decide⟩ (by omega) (z := V 10 ((V 12 (prb (hsM r1) d)) - 1)) rfl dX3_comes_43 ?_
        refine lv_lload_n hx hb (pc := 44) dX3_comes_44 rfl (lv_at hl 1 rfl) ?_
        obtain ⟨x_, hx_⟩ : ∃ x, NL[(V 12 (prb (hsM r1) d) - 1).toNat]? = some x := ⟨_, List.getElem?_eq_getElem (by omega)⟩
        have hv_ := hN.2.2.1 _ x_ hx_
        rw [Int.toNat_of_nonneg (by omega)] at hv_
        refine j_lcmp hC (pc := 45) dX3_comes_45 (by omega) (fun z6 h5 => ?_)
        refine j_if_eq hC (pc := 46) 62 dX3_comes_46 (by decide) (by omega) (fun c7 => ?_) (fun c7 => ?_)
        · skip
          refine lv_aload_n hx hb (pc := 62) dX3_comes_62 rfl (lv_at hl 2 rfl) ?_
          refine M_get hC hX hM (pc := 63) 19 (by decide) q907 rfl (v := .ref (m + 12)) rfl dX3_comes_63 ?_
          refine lv_iload hx hb (pc := 66) dX3_comes_66 (lv_at hl 0 rfl) ?_
          refine M_iald hC hX hM (pc := 68) 12 (by decide) (L := 2048) ⟨rfl, by decide⟩ (by omega) (z := V 12 (prb (hsM r1) d)) rfl dX3_comes_68 ?_
          refine j_if_ne hC (pc := 69) 113 dX3_comes_69 (by decide) (by omega) (fun c8 => ?_) (fun c8 => ?_)
          · skip
            refine lv_aload_n hx hb (pc := 113) dX3_comes_113 rfl (lv_at hl 2 rfl) ?_
            refine M_get hC hX hM (pc := 114) 18 (by decide) q906 rfl (v := .ref (m + 11)) rfl dX3_comes_114 ?_
            refine lv_aload_n hx hb (pc := 117) dX3_comes_117 rfl (lv_at hl 2 rfl) ?_
            refine M_get hC hX hM (pc := 118) 19 (by decide) q907 rfl (v := .ref (m + 12)) rfl dX3_comes_118 ?_
            refine lv_iload hx hb (pc := 121) dX3_comes_121 (lv_at hl 0 rfl) ?_
            refine M_iald hC hX hM (pc := 123) 12 (by decide) (L := 2048) ⟨rfl, by decide⟩ (by omega) (z := V 12 (prb (hsM r1) d)) rfl dX3_comes_123 ?_
            refine j_iconst hC (pc := 124) dX3_comes_124 ?_
            refine j_isub hC (pc := 125) dX3_comes_125 ?_
            refine lv_dup2_11 hx hb (pc := 126) dX3_comes_126 rfl rfl ?_
            refine M_lald hC hX hM (pc := 127) 11 (by decide) (L := 800) ⟨rfl, by decide⟩ (by omega) (z := V 11 ((V 12 (prb (hsM r1) d)) - 1)) rfl dX3_comes_127 ?_
            refine lv_lload_n hx hb (pc := 128) dX3_comes_128 rfl (lv_at hl 3 rfl) ?_
            refine j_ladd hC (pc := 129) dX3_comes_129 ?_
            refine M_last hC hX hM ho (pc := 130) 11 (by decide) (L := 800) ⟨rfl, by decide⟩ (by omega) dX3_comes_130 (fun g H locs hX hM ho => ?_)
            subst hQ
            exact j_vret hC (pc := 131) hX hr hlk (Nat.le_refl _) (Nat.le_refl _) dX3_comes_131 ⟨rfl, _, _, hM, ho, ⟨ch.rf, ch.rf.up 11 _ (by decide), by rw [← hp]; exact hN.old (j := V 12 (prb (hsM r1) d) - 1) (by omega) (by omega) rfl rfl rfl, by omega⟩⟩
          · skip
            exfalso; omega
        · skip
          refine lv_iload hx hb (pc := 49) dX3_comes_49 (lv_at hl 0 rfl) ?_
          refine j_iconst hC (pc := 51) dX3_comes_51 ?_
          refine j_iadd hC (pc := 52) dX3_comes_52 ?_
          refine j_sipush hC (pc := 53) dX3_comes_53 (by decide) ?_
          refine j_irem hC (pc := 56) dX3_comes_56 (by omega) ?_
          refine j_eqi (b := prb (hsM r1) ((d + 1 : Nat) : Int)) (by unfold prb; omega) ?_
          refine lv_istore (lv' := [(5, .int (iI (prb (hsM r1) ((d + 1 : Nat) : Int)))), (3, .long (lI (r1))), (0, .ref (m)), (1, .long (lI (n_)))]) hx hb (pc := 57) dX3_comes_57 hl (by decide) rfl (fun ls hl => ?_)
          refine j_goto hC (pc := 59) 20 dX3_comes_59 (by decide) ?_
          exact ih (d + 1) (by omega) (hN.2.2.2.more (by omega) hd (fun e he => by rcases Nat.lt_or_ge e d with q | q; exact (hoc e q).1; rw [show e = d by omega]; omega)) (fun e he => by rcases Nat.lt_or_ge e d with q | q; exact hoc e q; rw [show e = d by omega]; exact ⟨by omega, fun x hx2 => by cases hx_.symm.trans hx2; omega⟩) _ _ _ hX hM ho ls (lv_sub hl [0, 1, 2, 3] rfl)
  exact L20 2049 0 (by omega) (by decide) (fun e he => absurd he (Nat.not_lt_zero e)) _ _ _ hX hM ho ls (lv_sub hl [0, 1, 2, 3] rfl)

theorem winF_rg (U : Int → Int) : 0 ≤ winF U ∧ winF U ≤ 2 := by
  unfold winF
  (repeat' split) <;> omega

set_option maxHeartbeats 4000000 in
set_option maxRecDepth 100000 in
theorem m3_goesOn (D : va_G) (T N : Nat → Nat) (l : Launch) {m : Nat} (F : Nat → Int) (V : Nat → Int → Int) (d n_ q_ : Int) (NL : List (Int × Int)) (hO : okS (V 6) (V 7)) (hN : NLI (F 16) V NL) (hL : F 16 < 800) (hd : 0 ≤ d ∧ d ≤ 5) : MMv D T N l yX3_goesOn (ws_ yX3_goesOn cX3_goesOn 7 none) ({ frames := 2, cells := 0, slots := 0, locals := 48 } : Room) m [.int (iI (d)), .long (lI (n_)), .long (lI (q_))] F V (fun F' V' => (winF (V 7) < 2 ∧ F' = F ∧ ch V V' [13, 14, 15] ∧ V' 13 = uI (V 13) (winF (V 7)) (V 13 (winF (V 7)) + n_ * q_) ∧ V' 14 = uI (V 14) (d + 1) (V 14 (d + 1) + n_ * q_) ∧ V' 15 = cLf (V 15) (V 6) (V 7) (n_ * q_) 6) ∨ (winF (V 7) = 2 ∧ ch F F' [16] ∧ ch V V' [10, 11, 12] ∧ NLI (F' 16) V' (insN NL (pkF (V 6) (V 7) 6) n_) ∧ F' 16 ≤ F 16 + 1)) := by
  intro g0 n hM
  refine j_start (by decide) (Nat.le_of_ble_eq_true rfl) ?_
  intro p e s mi args below meth c hC hr hlk hnm hX ls hl
  have hC : Ct D T N (gA g0 n) p s mi args c cX3_goesOn RX3 7 := hC
  have hx := hC.x
  have hb := hC.b
  have ho : off g0 g0 m 27 := off.rf
  generalize hQ : MQ below _ args s 0 0 (gA g0 n) = Q
  have hl : lv_has ls 7 [(0, .ref (m)), (1, .int (iI (d))), (2, .long (lI (n_))), (4, .long (lI (q_)))] := hl
  refine lv_aload_n hx hb (pc := 0) dX3_goesOn_0 rfl (lv_at hl 0 rfl) ?_
  refine M_calli (As := []) (rest := []) hC hX hM ho (m3_winner D T N l _ _ (by assumption)) (cwV 0 hC.ts (lw_V q1088 q1090 qs23 q46 q1091) rfl rfl rfl (by decide +kernel) ⟨Nat.le_of_ble_eq_true rfl, Nat.le_of_ble_eq_true rfl⟩) rfl hl.1 (Nat.le_of_ble_eq_true rfl) dX3_goesOn_1 ⟨Nat.zero_le _, Nat.zero_le _⟩ (fun r1 F2 V2 g H locs hp hX hM ho => ?_)
  obtain ⟨hp, hF_, hV_⟩ := hp
  rw [hF_, hV_] at hM
  have hw_ := winF_rg (V 7)
  have hr1 := hp
  refine lv_istore (lv' := [(6, .int (iI (r1))), (0, .ref (m)), (1, .int (iI (d))), (2, .long (lI (n_))), (4, .long (lI (q_)))]) hx hb (pc := 4) dX3_goesOn_4 hl (by decide) rfl (fun ls hl => ?_)
  refine lv_iload hx hb (pc := 6) dX3_goesOn_6 (lv_at hl 0 rfl) ?_
  refine j_iconst hC (pc := 8) dX3_goesOn_8 ?_
  refine j_icmp_ge hC (pc := 9) 28 dX3_goesOn_9 (by decide) (by omega) (fun c3 => ?_) (fun c3 => ?_)
  · skip
    refine lv_aload_n hx hb (pc := 28) dX3_goesOn_28 rfl (lv_at hl 1 rfl) ?_
    refine lv_lload_n hx hb (pc := 29) dX3_goesOn_29 rfl (lv_at hl 3 rfl) ?_
    refine M_callv (As := [.long (lI (n_))]) (rest := []) hC hX hM ho (m3_comes D T N l _ _ n_ NL (by assumption) (by assumption) (by omega)) (cwV 1 hC.ts (lw_V q1109 q1111 qs28 q46 q1112) rfl rfl rfl (by decide +kernel) ⟨Nat.le_of_ble_eq_true rfl, Nat.le_of_ble_eq_true rfl⟩) rfl hl.1 (Nat.le_of_ble_eq_true rfl) dX3_goesOn_30 ⟨Nat.zero_le _, Nat.zero_le _⟩ (fun F5 V5 g H locs hp hX hM ho => ?_)
    subst hQ
    exact j_vret hC (pc := 33) hX hr hlk (Nat.le_refl _) (Nat.le_refl _) dX3_goesOn_33 ⟨rfl, _, _, hM, ho, Or.inr ⟨by omega, hp⟩⟩
  · skip
    refine lv_aload_n hx hb (pc := 12) dX3_goesOn_12 rfl (lv_at hl 1 rfl) ?_
    refine lv_iload hx hb (pc := 13) dX3_goesOn_13 (lv_at hl 0 rfl) ?_
    refine lv_iload_n hx hb (pc := 15) dX3_goesOn_15 rfl (lv_at hl 2 rfl) ?_
    refine j_iconst hC (pc := 16) dX3_goesOn_16 ?_
    refine j_iadd hC (pc := 17) dX3_goesOn_17 ?_
    refine lv_lload_n hx hb (pc := 18) dX3_goesOn_18 rfl (lv_at hl 3 rfl) ?_
    refine lv_lload hx hb (pc := 19) dX3_goesOn_19 (lv_at hl 4 rfl) ?_
    refine j_lmul hC (pc := 21) dX3_goesOn_21 ?_
    refine M_callv (As := [.int (iI (r1)), .int (iI (d + 1)), .long (lI (n_ * q_))]) (rest := []) hC hX hM ho (m3_counts D T N l _ _ r1 (d + 1) (n_ * q_) (by assumption) (by omega) (by omega)) (cwV 3 hC.ts (lw_V q1092 q1094 qs24 q46 q1095) rfl rfl rfl (by decide +kernel) ⟨Nat.le_of_ble_eq_true rfl, Nat.le_of_ble_eq_true rfl⟩) rfl hl.1 (Nat.le_of_ble_eq_true rfl) dX3_goesOn_22 ⟨Nat.zero_le _, Nat.zero_le _⟩ (fun F7 V7 g H locs hp hX hM ho => ?_)
    refine j_goto hC (pc := 25) 33 dX3_goesOn_25 (by decide) ?_
    subst hQ
    exact j_vret hC (pc := 33) hX hr hlk (Nat.le_refl _) (Nat.le_refl _) dX3_goesOn_33 ⟨rfl, _, _, hM, ho, Or.inl (by rw [← hr1]; exact ⟨by omega, hp.1, hp.2.1, hp.2.2.1, by have := hp.2.2.2.1; rw [if_pos (by omega)] at this; exact this, hp.2.2.2.2⟩)⟩
