/-! FairFightModel: wishes -/
theorem whP_cg {V V' : Nat → Int → Int} (h : V' 2 = V 2) (a b : Int) : whP V' a b = whP V a b := by
  funext j
  unfold whP
  rw [h]

set_option maxHeartbeats 8000000 in
set_option maxRecDepth 100000 in
theorem m3_wish (D : va_G) (T N : Nat → Nat) (l : Launch) {m : Nat} (F : Nat → Int) (V : Nat → Int → Int) (lo hi : Int) (hI : SI F V) (hg : (-2147483648 ≤ lo ∧ lo ≤ 2147483647) ∧ (-2147483648 ≤ hi ∧ hi ≤ 2147483647)) : MMi D T N l yX3_wish (ws_ yX3_wish cX3_wish 6 (some .int)) ({ frames := 4, cells := 0, slots := 0, locals := 102 } : Room) m [.int (iI (lo)), .int (iI (hi))] F V (mP (op_wish F V lo hi)) := by
  intro g0 n hM
  refine j_start (by decide) (Nat.le_of_ble_eq_true rfl) ?_
  intro p e s mi args below meth c hC hr hlk hnm hX ls hl
  have hC : Ct D T N (gA g0 n) p s mi args c cX3_wish RX3 6 := hC
  have hx := hC.x
  have hb := hC.b
  have ho : off g0 g0 m 27 := off.rf
  generalize hQ : MQ below _ args s 0 0 (gA g0 n) = Q
  have hl : lv_has ls 6 [(0, .ref (m)), (1, .int (iI (lo))), (2, .int (iI (hi)))] := hl
  have hn := hI.nums
  have h2_ := hI.i2 (i := 0) (by omega)
  have hwN : (wN F = F 0 ∧ F 0 < 6) ∨ (wN F = 6 ∧ 6 ≤ F 0) := by unfold wN; split <;> omega
  refine lv_iload_n hx hb (pc := 0) dX3_wish_0 rfl (lv_at hl 1 rfl) ?_
  refine j_i2l hC (pc := 1) dX3_wish_1 (by omega) ?_
  refine j_lconst hC (pc := 2) (w := 0) dX3_wish_2 rfl ?_
  refine j_ldc2 hC (pc := 3) (z := 1000000) q1215 dX3_wish_3 rfl ?_
  refine S_calli (As := [.long (lI (lo)), .long (lI (0)), .long (lI (1000000))]) (rest := []) hC hX (m3_in D T N l lo 0 1000000 (by omega)) (va_cwS 3 hC.ts (lw_S q1020 q1021 q46 q1022) rfl rfl rfl (by decide +kernel) ⟨Nat.le_of_ble_eq_true rfl, Nat.le_of_ble_eq_true rfl⟩) rfl hl.1 (Nat.le_of_ble_eq_true rfl) dX3_wish_6 ⟨Nat.zero_le _, Nat.zero_le _⟩ (fun r1 H locs hp hX => ?_)
  have hq_r1 := inF_of hp
  refine j_if_eq hC (pc := 9) 25 dX3_wish_9 (by decide) (by omega) (fun c2 => ?_) (fun c2 => ?_)
  · skip
    refine j_bipush hC (pc := 25) dX3_wish_25 (by decide) ?_
    subst hQ
    exact j_iret hC (pc := 27) hX hr hlk (Nat.le_refl _) (Nat.le_refl _) dX3_wish_27 ⟨rfl, _, _, hM, ho, ⟨by unfold op_wish; rw [if_neg (by omega)], by unfold op_wish; rw [if_neg (by omega)]; exact ch.rf, by unfold op_wish; rw [if_neg (by omega)]; exact ch.rf⟩⟩
  · skip
    refine lv_iload_n hx hb (pc := 12) dX3_wish_12 rfl (lv_at hl 2 rfl) ?_
    refine j_i2l hC (pc := 13) dX3_wish_13 (by omega) ?_
    refine lv_iload_n hx hb (pc := 14) dX3_wish_14 rfl (lv_at hl 1 rfl) ?_
    refine j_i2l hC (pc := 15) dX3_wish_15 (by omega) ?_
    refine j_ldc2 hC (pc := 16) (z := 1000000) q1215 dX3_wish_16 rfl ?_
    refine S_calli (As := [.long (lI (hi)), .long (lI (lo)), .long (lI (1000000))]) (rest := []) hC hX (m3_in D T N l hi lo 1000000 (by omega)) (va_cwS 3 hC.ts (lw_S q1020 q1021 q46 q1022) rfl rfl rfl (by decide +kernel) ⟨Nat.le_of_ble_eq_true rfl, Nat.le_of_ble_eq_true rfl⟩) rfl hl.1 (Nat.le_of_ble_eq_true rfl) dX3_wish_19 ⟨Nat.zero_le _, Nat.zero_le _⟩ (fun r3 H locs hp hX => ?_)
    have hq_r3 := inF_of hp
    refine j_if_ne hC (pc := 22) 28 dX3_wish_22 (by decide) (by omega) (fun c4 => ?_) (fun c4 => ?_)
    · skip
      refine lv_aload_n hx hb (pc := 28) dX3_wish_28 rfl (lv_at hl 0 rfl) ?_
      refine M_get hC hX hM (pc := 29) 2 (by decide) q890 rfl (v := .ref (m + 2)) rfl dX3_wish_29 ?_
      refine j_iconst hC (pc := 32) dX3_wish_32 ?_
      refine M_iald hC hX hM (pc := 33) 2 (by decide) (L := 6) ⟨rfl, by decide⟩ (by omega) (z := V 2 0) rfl dX3_wish_33 ?_
      refine j_iconst hC (pc := 34) dX3_wish_34 ?_
      refine j_icmp_ne hC (pc := 35) 41 dX3_wish_35 (by decide) (by omega) (fun c5 => ?_) (fun c5 => ?_)
      · skip
        refine lv_aload_n hx hb (pc := 41) dX3_wish_41 rfl (lv_at hl 0 rfl) ?_
        refine j_iconst hC (pc := 42) dX3_wish_42 ?_
        refine M_put hC hX hM ho (pc := 43) 31 (by decide) q919 rfl dX3_wish_43 (fun g H locs hX hM ho => ?_)
        refine j_iconst hC (pc := 46) dX3_wish_46 ?_
        refine lv_istore_n (lv' := [(3, .int (iI (0))), (0, .ref (m)), (1, .int (iI (lo))), (2, .int (iI (hi)))]) hx hb (pc := 47) dX3_wish_47 rfl hl (by decide) rfl (fun ls hl => ?_)
        have L48 : ∀ (fu : Nat) (a : Int) (Fa : Nat → Int) (Va : Nat → Int → Int), wN F - a < (fu : Int) → (0 ≤ a ∧ a ≤ wN F) → (ch F Fa [8, 9, 13, 16, 23, 31]) → (ch V Va [3, 4, 5, 6, 7, 8, 9, 10, 11, 12, 13, 14, 15, 16, 19]) → (Va 19 = (wOut F V lo hi a.toNat).1) → (Fa 31 = (wOut F V lo hi a.toNat).2) → ∀ (g : GH) (H : Heap) (locs : List Loc), Wd D (gA g0 n) s g n H locs → mR T g m Fa Va → off g0 g m 27 → ∀ (ls : Array Slot), lv_has ls 6 [(3, .int (iI (a))), (0, .ref (m)), (1, .int (iI (lo))), (2, .int (iI (hi)))] → W p l e ({ frames := 4, cells := 0, slots := 0, locals := 102 } : Room) s mi args below meth c H locs 0 0 Q (F0 mi 48 ls []) := by
          intro fu
          induction fu with
          | zero =>
            intro a Fa Va hfu ha cFa cVa h19a h31a g H locs hX hM ho ls hl
            exfalso
            omega
          | succ fu ih48 =>
            intro a Fa Va hfu ha cFa cVa h19a h31a g H locs hX hM ho ls hl
            have ea0 : Fa 0 = F 0 := cFa 0 (by decide)
            have hba := bdOk.out (F := F) (V := V) (lo := lo) (hi := hi) (by omega) a.toNat (by omega)
            refine lv_iload_n hx hb (pc := 48) dX3_wish_48 rfl (lv_at hl 0 rfl) ?_
            refine j_bipush hC (pc := 49) dX3_wish_49 (by decide) ?_
            refine j_icmp_ge hC (pc := 51) 206 dX3_wish_51 (by decide) (by omega) (fun c6 => ?_) (fun c6 => ?_)
            · skip
              refine lv_aload_n hx hb (pc := 206) dX3_wish_206 rfl (lv_at hl 1 rfl) ?_
              refine M_get hC hX hM (pc := 207) 31 (by decide) q919 rfl (v := .int (iI (Fa 31))) rfl dX3_wish_207 ?_
              subst hQ
              exact j_iret hC (pc := 210) hX hr hlk (Nat.le_refl _) (Nat.le_refl _) dX3_wish_210 ⟨rfl, _, _, hM, ho, ⟨by unfold op_wish; rw [if_pos (by omega), if_neg (by omega), show (wN F).toNat = a.toNat by omega]; exact h31a, by unfold op_wish; rw [if_pos (by omega), if_neg (by omega), show (wN F).toNat = a.toNat by omega]; exact ch_set (ch.wd cFa (by decide)) h31a, by unfold op_wish; rw [if_pos (by omega), if_neg (by omega), show (wN F).toNat = a.toNat by omega]; exact ch_set (ch.wd cVa (by decide)) h19a⟩⟩
            · skip
              refine lv_iload_n hx hb (pc := 54) dX3_wish_54 rfl (lv_at hl 0 rfl) ?_
              refine lv_aload_n hx hb (pc := 55) dX3_wish_55 rfl (lv_at hl 1 rfl) ?_
              refine M_get hC hX hM (pc := 56) 0 (by decide) q888 rfl (v := .int (iI (Fa 0))) rfl dX3_wish_56 ?_
              refine j_icmp_ge hC (pc := 59) 206 dX3_wish_59 (by decide) (by omega) (fun c7 => ?_) (fun c7 => ?_)
              · skip
                refine lv_aload_n hx hb (pc := 206) dX3_wish_206 rfl (lv_at hl 1 rfl) ?_
                refine M_get hC hX hM (pc := 207) 31 (by decide) q919 rfl (v := .int (iI (Fa 31))) rfl dX3_wish_207 ?_
                subst hQ
                exact j_iret hC (pc := 210) hX hr hlk (Nat.le_refl _) (Nat.le_refl _) dX3_wish_210 ⟨rfl, _, _, hM, ho, ⟨by unfold op_wish; rw [if_pos (by omega), if_neg (by omega), show (wN F).toNat = a.toNat by omega]; exact h31a, by unfold op_wish; rw [if_pos (by omega), if_neg (by omega), show (wN F).toNat = a.toNat by omega]; exact ch_set (ch.wd cFa (by decide)) h31a, by unfold op_wish; rw [if_pos (by omega), if_neg (by omega), show (wN F).toNat = a.toNat by omega]; exact ch_set (ch.wd cVa (by decide)) h19a⟩⟩
              · skip
                refine lv_iload_n hx hb (pc := 62) dX3_wish_62 rfl (lv_at hl 0 rfl) ?_
                refine j_iconst hC (pc := 63) dX3_wish_63 ?_
                refine j_isub hC (pc := 64) dX3_wish_64 ?_
                refine lv_istore (lv' := [(4, .int (iI (a - 1))), (3, .int (iI (a))), (0, .ref (m)), (1, .int (iI (lo))), (2, .int (iI (hi)))]) hx hb (pc := 65) dX3_wish_65 hl (by decide) rfl (fun ls hl => ?_)
                have L67 : ∀ (fu : Nat) (b : Int) (Fb : Nat → Int) (Vb : Nat → Int → Int), wN F - b < (fu : Int) → (a - 1 ≤ b ∧ b ≤ wN F) → (ch F Fb [8, 9, 13, 16, 23, 31]) → (ch V Vb [3, 4, 5, 6, 7, 8, 9, 10, 11, 12, 13, 14, 15, 16, 19]) → (Vb 19 = (wIn F V lo hi a (wOut F V lo hi a.toNat) (b - a + 1).toNat).1) → (Fb 31 = (wIn F V lo hi a (wOut F V lo hi a.toNat) (b - a + 1).toNat).2) → ∀ (g : GH) (H : Heap) (locs : List Loc), Wd D (gA g0 n) s g n H locs → mR T g m Fb Vb → off g0 g m 27 → ∀ (ls : Array Slot), lv_has ls 6 [(4, .int (iI (b))), (3, .int (iI (a))), (0, .ref (m)), (1, .int (iI (lo))), (2, .int (iI (hi)))] → W p l e ({ frames := 4, cells := 0, slots := 0, locals := 102 } : Room) s mi args below meth c H locs 0 0 Q (F0 mi 67 ls []) := by
                  intro fu
                  induction fu with
                  | zero =>
                    intro b Fb Vb hfu hb_ cFb cVb h19 h31 g H locs hX hM ho ls hl
                    exfalso
                    omega
                  | succ fu ih67 =>
                    intro b Fb Vb hfu hb_ cFb cVb h19 h31 g H locs hX hM ho ls hl
                    have eb0 : Fb 0 = F 0 := cFb 0 (by decide)
                    have hbb := hba.inn (lo := lo) (hi := hi) (F := F) (V := V) (a := a) (by omega) (b - a + 1).toNat (by omega)
                    rw [Int.toNat_of_nonneg (show 0 ≤ b - a + 1 by omega)] at hbb
                    have hb1 := hbb.1
                    rw [← h31] at hb1
                    have hIb : SI Fb Vb := SI_bd hI cFb cVb (by have := wMx_le (a := a) (b := b - 1) (by omega) (by omega); omega) (by rw [h31, h19]; exact hbb.2)
                    refine lv_iload hx hb (pc := 67) dX3_wish_67 (lv_at hl 0 rfl) ?_
                    refine j_bipush hC (pc := 69) dX3_wish_69 (by decide) ?_
                    refine j_icmp_ge hC (pc := 71) 200 dX3_wish_71 (by decide) (by omega) (fun c8 => ?_) (fun c8 => ?_)
                    · skip
                      refine j_iinc hC (pc := 200) (lv' := [(3, .int (iI (a + 1))), (4, .int (iI (b))), (0, .ref (m)), (1, .int (iI (lo))), (2, .int (iI (hi)))]) dX3_wish_200 hl (k := 1) rfl (by decide) rfl (fun ls hl => ?_)
                      refine j_goto hC (pc := 203) 48 dX3_wish_203 (by decide) ?_
                      exact ih48 (a + 1) _ _ (by omega) (by omega) cFb cVb (by rw [show (a + 1).toNat = a.toNat + 1 by omega]; show _ = (wIn F V lo hi ((a.toNat : Nat) : Int) (wOut F V lo hi a.toNat) (wN F - ((a.toNat : Nat) : Int) + 1).toNat).1; rw [Int.toNat_of_nonneg (by omega), show wN F = b by omega]; exact h19) (by rw [show (a + 1).toNat = a.toNat + 1 by omega]; show _ = (wIn F V lo hi ((a.toNat : Nat) : Int) (wOut F V lo hi a.toNat) (wN F - ((a.toNat : Nat) : Int) + 1).toNat).2; rw [Int.toNat_of_nonneg (by omega), show wN F = b by omega]; exact h31) _ _ _ hX hM ho ls (lv_sub hl [0, 2, 3, 4] rfl)
                    · skip
                      refine lv_iload hx hb (pc := 74) dX3_wish_74 (lv_at hl 0 rfl) ?_
                      refine lv_aload_n hx hb (pc := 76) dX3_wish_76 rfl (lv_at hl 2 rfl) ?_
                      refine M_get hC hX hM (pc := 77) 0 (by decide) q888 rfl (v := .int (iI (Fb 0))) rfl dX3_wish_77 ?_
                      refine j_icmp_ge hC (pc := 80) 200 dX3_wish_80 (by decide) (by omega) (fun c9 => ?_) (fun c9 => ?_)
                      · skip
                        refine j_iinc hC (pc := 200) (lv' := [(3, .int (iI (a + 1))), (4, .int (iI (b))), (0, .ref (m)), (1, .int (iI (lo))), (2, .int (iI (hi)))]) dX3_wish_200 hl (k := 1) rfl (by decide) rfl (fun ls hl => ?_)
                        refine j_goto hC (pc := 203) 48 dX3_wish_203 (by decide) ?_
                        exact ih48 (a + 1) _ _ (by omega) (by omega) cFb cVb (by rw [show (a + 1).toNat = a.toNat + 1 by omega]; show _ = (wIn F V lo hi ((a.toNat : Nat) : Int) (wOut F V lo hi a.toNat) (wN F - ((a.toNat : Nat) : Int) + 1).toNat).1; rw [Int.toNat_of_nonneg (by omega), show wN F = b by omega]; exact h19) (by rw [show (a + 1).toNat = a.toNat + 1 by omega]; show _ = (wIn F V lo hi ((a.toNat : Nat) : Int) (wOut F V lo hi a.toNat) (wN F - ((a.toNat : Nat) : Int) + 1).toNat).2; rw [Int.toNat_of_nonneg (by omega), show wN F = b by omega]; exact h31) _ _ _ hX hM ho ls (lv_sub hl [0, 2, 3, 4] rfl)
                      · skip
                        refine lv_aload_n hx hb (pc := 83) dX3_wish_83 rfl (lv_at hl 2 rfl) ?_
                        refine j_iconst hC (pc := 84) dX3_wish_84 ?_
                        refine M_callv (As := [.int (iI (0))]) (rest := []) hC hX hM ho (m3_sets D T N l _ _ 0 (by omega)) (cwV 1 hC.ts (lw_V q1064 q1066 qs18 q46 q1067) rfl rfl rfl (by decide +kernel) ⟨Nat.le_of_ble_eq_true rfl, Nat.le_of_ble_eq_true rfl⟩) rfl hl.1 (Nat.le_of_ble_eq_true rfl) dX3_wish_85 ⟨Nat.zero_le _, Nat.zero_le _⟩ (fun F11 V11 g H locs hp hX hM ho => ?_)
                        have hst := hp
                        have hst3 : V11 = V11 := rfl
                        refine lv_aload_n hx hb (pc := 88) dX3_wish_88 rfl (lv_at hl 2 rfl) ?_
                        refine M_get hC hX hM (pc := 89) 6 (by decide) q894 rfl (v := .ref (m + 3)) rfl dX3_wish_89 ?_
                        refine j_iconst hC (pc := 92) dX3_wish_92 ?_
                        refine lv_iload_n hx hb (pc := 93) dX3_wish_93 rfl (lv_at hl 1 rfl) ?_
                        refine M_iast hC hX hM ho (pc := 94) 3 (by decide) (L := 6) ⟨rfl, by decide⟩ (by omega) dX3_wish_94 (fun g H locs hX hM ho => ?_)
                        refine lv_aload_n hx hb (pc := 95) dX3_wish_95 rfl (lv_at hl 2 rfl) ?_
                        refine M_get hC hX hM (pc := 96) 6 (by decide) q894 rfl (v := .ref (m + 3)) rfl dX3_wish_96 ?_
                        refine j_iconst hC (pc := 99) dX3_wish_99 ?_
                        have J112 : ∀ (x : Int) (Ve : Nat → Int → Int), (x = if b < a then -1 else b) → (Ve 3 = uI (V11 3) 3 a) → (ch V11 Ve [3]) → ∀ (g : GH) (H : Heap) (locs : List Loc), Wd D (gA g0 n) s g n H locs → mR T g m F11 Ve → off g0 g m 27 → ∀ (ls : Array Slot), lv_has ls 6 [(4, .int (iI (b))), (3, .int (iI (a))), (0, .ref (m)), (1, .int (iI (lo))), (2, .int (iI (hi)))] → W p l e ({ frames := 4, cells := 0, slots := 0, locals := 102 } : Room) s mi args below meth c H locs 0 0 Q (F0 mi 112 ls [.int (iI (x)), .int (iI (4)), .ref (m + 3)]) := by
                          intro x Ve hx_ hVe cVe g H locs hX hM ho ls hl
                          refine M_iast hC hX hM ho (pc := 112) 3 (by decide) (L := 6) ⟨rfl, by decide⟩ (by omega) dX3_wish_112 (fun g H locs hX hM ho => ?_)
                          refine lv_aload_n hx hb (pc := 113) dX3_wish_113 rfl (lv_at hl 2 rfl) ?_
                          refine M_get hC hX hM (pc := 114) 6 (by decide) q894 rfl (v := .ref (m + 3)) rfl dX3_wish_114 ?_
                          refine j_iconst hC (pc := 117) dX3_wish_117 ?_
                          refine j_iconst hC (pc := 118) dX3_wish_118 ?_
                          refine M_iast hC hX hM ho (pc := 119) 3 (by decide) (L := 6) ⟨rfl, by decide⟩ (by omega) dX3_wish_119 (fun g H locs hX hM ho => ?_)
                          have h3e : ∀ j : Int, 0 ≤ j → j < 6 → uI (uI (Ve 3) 4 x) 5 (-1) j = whP Vb a b j := fun j h1 h2 => by rw [hVe, hx_]; have := (hst.2.2 j h1 h2).1; unfold uI whP; (repeat' split) <;> first | rfl | omega
                          have hP : PW Fb Vb (whP Vb a b) 0 (Fb 5) F11 (va_up (va_up Ve 3 (uI (Ve 3) 4 x)) 3 (uI (uI (Ve 3) 4 x) 5 (-1))) := ⟨⟨hIb, whP_ok hIb (by omega) (by omega), by decide, hIb.nums.2.2.2.1⟩, ⟨by rw [hst.1]; exact ch.rf.up 8 _ (by decide), ((ch.tr (ks := [3, 4]) hst.2.1 cVe (by decide)).up 3 (uI (Ve 3) 4 x) (by decide)).up 3 (uI (uI (Ve 3) 4 x) 5 (-1)) (by decide), by rw [hst.1]; rfl⟩, h3e, fun j h1 h2 => by show Ve 4 j = _; rw [cVe 4 (by decide)]; exact (hst.2.2 j h1 h2).2⟩
                          refine lv_aload_n hx hb (pc := 120) dX3_wish_120 rfl (lv_at hl 2 rfl) ?_
                          refine M_calli (As := []) (rest := []) hC hX hM ho (m3_works D T N l _ _ _ _ _ _ hP.su hP.sl hP.I hP.W hP.2.2.1 hP.1.2.2.1 hP.2.2.2 hP.st) (cwV 0 hC.ts (lw_V q1084 q1086 qs22 q46 q1087) rfl rfl rfl (by decide +kernel) ⟨Nat.le_of_ble_eq_true rfl, Nat.le_of_ble_eq_true rfl⟩) rfl hl.1 (Nat.le_of_ble_eq_true rfl) dX3_wish_121 ⟨Nat.zero_le _, Nat.zero_le _⟩ (fun r12 F13 V13 g H locs hp hX hM ho => ?_)
                          have hw := hP.post hp
                          have hr5 := hw.two
                          have heq : oddW Fb Vb (whP Vb a b) 0 (Fb 5) = oddW F V (whP V a b) 0 (F 5) := by rw [whP_cg (cVb 2 (by decide)), cFb 5 (by decide)]; exact oddW_cg (cFb 3 (by decide)) (cFb 4 (by decide)) (cVb 1 (by decide))
                          have J136 : ∀ (o : Int) (Fo : Nat → Int) (Vo : Nat → Int → Int), (o = oddW F V (whP V a b) 0 (F 5)) → (ch Fb Fo scW) → (ch Vb Vo scX) → ∀ (g : GH) (H : Heap) (locs : List Loc), Wd D (gA g0 n) s g n H locs → mR T g m Fo Vo → off g0 g m 27 → ∀ (ls : Array Slot), lv_has ls 6 [(4, .int (iI (b))), (3, .int (iI (a))), (0, .ref (m)), (1, .int (iI (lo))), (2, .int (iI (hi)))] → W p l e ({ frames := 4, cells := 0, slots := 0, locals := 102 } : Room) s mi args below meth c H locs 0 0 Q (F0 mi 136 ls [.int (iI (o))]) := by
                            intro o Fo Vo ho_ cFo cVo g H locs hX hM ho ls hl
                            have hor := oddW_rg hIb (whP_ok hIb (a := a) (b := b) (by omega) (by omega)) (bo := 0) (by decide) hIb.nums.2.2.2.1
                            have heq : oddW Fb Vb (whP Vb a b) 0 (Fb 5) = oddW F V (whP V a b) 0 (F 5) := by rw [whP_cg (cVb 2 (by decide)), cFb 5 (by decide)]; exact oddW_cg (cFb 3 (by decide)) (cFb 4 (by decide)) (cVb 1 (by decide))
                            rw [heq, ← ho_] at hor
                            have hws : wIn F V lo hi a (wOut F V lo hi a.toNat) (b + 1 - a + 1).toNat = wStep F V lo hi a b (wIn F V lo hi a (wOut F V lo hi a.toNat) (b - a + 1).toNat) := by rw [show (b + 1 - a + 1).toNat = (b - a + 1).toNat + 1 by omega]; show wStep F V lo hi a (a - 1 + (((b - a + 1).toNat : Nat) : Int)) _ = _; rw [Int.toNat_of_nonneg (by omega), show a - 1 + (b - a + 1) = b by omega]
                            have eo31 : Fo 31 = Fb 31 := cFo 31 (by decide)
                            have hmx := wMx_le (a := a) (b := b) (by omega) (by omega)
                            refine lv_istore (lv' := [(5, .int (iI (o))), (4, .int (iI (b))), (3, .int (iI (a))), (0, .ref (m)), (1, .int (iI (lo))), (2, .int (iI (hi)))]) hx hb (pc := 136) dX3_wish_136 hl (by decide) rfl (fun ls hl => ?_)
                            refine lv_iload hx hb (pc := 138) dX3_wish_138 (lv_at hl 0 rfl) ?_
                            refine j_i2l hC (pc := 140) dX3_wish_140 (by omega) ?_
                            refine lv_iload_n hx hb (pc := 141) dX3_wish_141 rfl (lv_at hl 4 rfl) ?_
                            refine j_i2l hC (pc := 142) dX3_wish_142 (by omega) ?_
                            refine lv_iload_n hx hb (pc := 143) dX3_wish_143 rfl (lv_at hl 5 rfl) ?_
                            refine j_i2l hC (pc := 144) dX3_wish_144 (by omega) ?_
                            refine S_calli (As := [.long (lI (o)), .long (lI (lo)), .long (lI (hi))]) (rest := []) hC hX (m3_in D T N l o lo hi (by omega)) (va_cwS 3 hC.ts (lw_S q1020 q1021 q46 q1022) rfl rfl rfl (by decide +kernel) ⟨Nat.le_of_ble_eq_true rfl, Nat.le_of_ble_eq_true rfl⟩) rfl hl.1 (Nat.le_of_ble_eq_true rfl) dX3_wish_145 ⟨Nat.zero_le _, Nat.zero_le _⟩ (fun r14 H locs hp hX => ?_)
                            have hq_r14 := inF_of hp
                            refine j_if_eq hC (pc := 148) 194 dX3_wish_148 (by decide) (by omega) (fun c15 => ?_) (fun c15 => ?_)
                            · skip
                              refine j_iinc hC (pc := 194) (lv' := [(4, .int (iI (b + 1))), (5, .int (iI (o))), (3, .int (iI (a))), (0, .ref (m)), (1, .int (iI (lo))), (2, .int (iI (hi)))]) dX3_wish_194 hl (k := 1) rfl (by decide) rfl (fun ls hl => ?_)
                              refine j_goto hC (pc := 197) 67 dX3_wish_197 (by decide) ?_
                              exact ih67 (b + 1) _ _ (by omega) (by omega) (ch.tr cFb cFo (by decide)) (ch.tr cVb cVo (by decide)) (by rw [hws]; unfold wStep; rw [if_neg (by omega), cVo 19 (by decide)]; exact h19) (by rw [hws]; unfold wStep; rw [if_neg (by omega), cFo 31 (by decide)]; exact h31) _ _ _ hX hM ho ls (lv_sub hl [0, 2, 3, 4, 5] rfl)
                            · skip
                              refine lv_aload_n hx hb (pc := 151) dX3_wish_151 rfl (lv_at hl 3 rfl) ?_
                              refine M_get hC hX hM (pc := 152) 32 (by decide) q920 rfl (v := .ref (m + 19)) rfl dX3_wish_152 ?_
                              refine lv_aload_n hx hb (pc := 155) dX3_wish_155 rfl (lv_at hl 3 rfl) ?_
                              refine M_get hC hX hM (pc := 156) 31 (by decide) q919 rfl (v := .int (iI (Fo 31))) rfl dX3_wish_156 ?_
                              refine lv_iload hx hb (pc := 159) dX3_wish_159 (lv_at hl 1 rfl) ?_
                              refine lv_iload_n hx hb (pc := 161) dX3_wish_161 rfl (lv_at hl 2 rfl) ?_
                              refine j_icmp_ge hC (pc := 162) 176 dX3_wish_162 (by decide) (by omega) (fun c16 => ?_) (fun c16 => ?_)
                              · skip
                                refine j_bipush hC (pc := 176) dX3_wish_176 (by decide) ?_
                                refine lv_iload_n hx hb (pc := 178) dX3_wish_178 rfl (lv_at hl 2 rfl) ?_
                                refine j_imul hC (pc := 179) dX3_wish_179 ?_
                                refine lv_iload hx hb (pc := 180) dX3_wish_180 (lv_at hl 1 rfl) ?_
                                refine j_iadd hC (pc := 182) dX3_wish_182 ?_
                                refine M_iast hC hX hM ho (pc := 183) 19 (by decide) (L := 27) ⟨rfl, by decide⟩ (by omega) dX3_wish_183 (fun g H locs hX hM ho => ?_)
                                refine lv_aload_n hx hb (pc := 184) dX3_wish_184 rfl (lv_at hl 3 rfl) ?_
                                refine lv_dup hx hb (pc := 185) dX3_wish_185 rfl ?_
                                refine M_get hC hX hM (pc := 186) 31 (by decide) q919 rfl (v := .int (iI (Fo 31))) rfl dX3_wish_186 ?_
                                refine j_iconst hC (pc := 189) dX3_wish_189 ?_
                                refine j_iadd hC (pc := 190) dX3_wish_190 ?_
                                refine M_put hC hX hM ho (pc := 191) 31 (by decide) q919 rfl dX3_wish_191 (fun g H locs hX hM ho => ?_)
                                refine j_iinc hC (pc := 194) (lv' := [(4, .int (iI (b + 1))), (5, .int (iI (o))), (3, .int (iI (a))), (0, .ref (m)), (1, .int (iI (lo))), (2, .int (iI (hi)))]) dX3_wish_194 hl (k := 1) rfl (by decide) rfl (fun ls hl => ?_)
                                refine j_goto hC (pc := 197) 67 dX3_wish_197 (by decide) ?_
                                exact ih67 (b + 1) _ _ (by omega) (by omega) ((ch.tr (ks := [8, 9, 13, 16, 23, 31]) cFb cFo (by decide)).up 31 _ (by decide)) ((ch.tr (ks := [3, 4, 5, 6, 7, 8, 9, 10, 11, 12, 13, 14, 15, 16, 19]) cVb cVo (by decide)).up 19 _ (by decide)) (by rw [hws]; unfold wStep; rw [if_pos (by omega), if_neg (by omega)]; show uI (Vo 19) (Fo 31) _ = uI _ _ _; rw [cVo 19 (by decide), cFo 31 (by decide), h19, h31]) (by rw [hws]; unfold wStep; rw [if_pos (by omega)]; show Fo 31 + 1 = _ + 1; rw [cFo 31 (by decide), h31]) _ _ _ hX hM ho ls (lv_sub hl [0, 2, 3, 4, 5] rfl)
                              · skip
                                refine j_sipush hC (pc := 165) dX3_wish_165 (by decide) ?_
                                refine j_bipush hC (pc := 168) dX3_wish_168 (by decide) ?_
                                refine lv_iload_n hx hb (pc := 170) dX3_wish_170 rfl (lv_at hl 2 rfl) ?_
                                refine j_imul hC (pc := 171) dX3_wish_171 ?_
                                refine j_iadd hC (pc := 172) dX3_wish_172 ?_
                                refine j_goto hC (pc := 173) 183 dX3_wish_173 (by decide) ?_
                                refine M_iast hC hX hM ho (pc := 183) 19 (by decide) (L := 27) ⟨rfl, by decide⟩ (by omega) dX3_wish_183 (fun g H locs hX hM ho => ?_)
                                refine lv_aload_n hx hb (pc := 184) dX3_wish_184 rfl (lv_at hl 3 rfl) ?_
                                refine lv_dup hx hb (pc := 185) dX3_wish_185 rfl ?_
                                refine M_get hC hX hM (pc := 186) 31 (by decide) q919 rfl (v := .int (iI (Fo 31))) rfl dX3_wish_186 ?_
                                refine j_iconst hC (pc := 189) dX3_wish_189 ?_
                                refine j_iadd hC (pc := 190) dX3_wish_190 ?_
                                refine M_put hC hX hM ho (pc := 191) 31 (by decide) q919 rfl dX3_wish_191 (fun g H locs hX hM ho => ?_)
                                refine j_iinc hC (pc := 194) (lv' := [(4, .int (iI (b + 1))), (5, .int (iI (o))), (3, .int (iI (a))), (0, .ref (m)), (1, .int (iI (lo))), (2, .int (iI (hi)))]) dX3_wish_194 hl (k := 1) rfl (by decide) rfl (fun ls hl => ?_)
                                refine j_goto hC (pc := 197) 67 dX3_wish_197 (by decide) ?_
                                exact ih67 (b + 1) _ _ (by omega) (by omega) ((ch.tr (ks := [8, 9, 13, 16, 23, 31]) cFb cFo (by decide)).up 31 _ (by decide)) ((ch.tr (ks := [3, 4, 5, 6, 7, 8, 9, 10, 11, 12, 13, 14, 15, 16, 19]) cVb cVo (by decide)).up 19 _ (by decide)) (by rw [hws]; unfold wStep; rw [if_pos (by omega), if_pos (by omega)]; show uI (Vo 19) (Fo 31) _ = uI _ _ _; rw [cVo 19 (by decide), cFo 31 (by decide), h19, h31]) (by rw [hws]; unfold wStep; rw [if_pos (by omega)]; show Fo 31 + 1 = _ + 1; rw [cFo 31 (by decide), h31]) _ _ _ hX hM ho ls (lv_sub hl [0, 2, 3, 4, 5] rfl)
                          refine j_if_eq hC (pc := 124) 132 dX3_wish_124 (by decide) (by omega) (fun c17 => ?_) (fun c17 => ?_)
                          · skip
                            refine lv_aload_n hx hb (pc := 132) dX3_wish_132 rfl (lv_at hl 2 rfl) ?_
                            refine M_calli (As := []) (rest := []) hC hX hM ho (m3_chanceOf D T N l _ _ _ _ _ hw.2.1 (hw.fine (by omega)).2.1 (hw.fine (by omega)).2.2.2.2.1 rfl (hw.fine (by omega)).2.2.2.2.2.1 (hw.fine (by omega)).2.2.2.2.2.2) (cwV 0 hC.ts (lw_V q1147 q1149 qs34 q46 q1150) rfl rfl rfl (by decide +kernel) ⟨Nat.le_of_ble_eq_true rfl, Nat.le_of_ble_eq_true rfl⟩) rfl hl.1 (Nat.le_of_ble_eq_true rfl) dX3_wish_133 ⟨Nat.zero_le _, Nat.zero_le _⟩ (fun r18 F19 V19 g H locs hp hX hM ho => ?_)
                            obtain ⟨hp, hF_, hV_⟩ := hp
                            rw [hF_, hV_] at hM
                            exact J136 r18 _ _ (by rw [hp, ← heq]; exact (hw.odd (by omega)).symm) hw.1.1 hw.1.2 _ _ _ hX hM ho ls (lv_sub hl [0, 1, 2, 3, 4] rfl)
                          · skip
                            refine j_bipush hC (pc := 127) dX3_wish_127 (by decide) ?_
                            refine j_goto hC (pc := 129) 136 dX3_wish_129 (by decide) ?_
                            exact J136 (-5) _ _ (by rw [← heq]; exact (hw.wide (by omega)).1.symm) hw.1.1 hw.1.2 _ _ _ hX hM ho ls (lv_sub hl [0, 1, 2, 3, 4] rfl)
                        refine lv_iload hx hb (pc := 100) dX3_wish_100 (lv_at hl 0 rfl) ?_
                        refine lv_iload_n hx hb (pc := 102) dX3_wish_102 rfl (lv_at hl 1 rfl) ?_
                        refine j_icmp_ge hC (pc := 103) 110 dX3_wish_103 (by decide) (by omega) (fun c20 => ?_) (fun c20 => ?_)
                        · skip
                          refine lv_iload hx hb (pc := 110) dX3_wish_110 (lv_at hl 0 rfl) ?_
                          exact J112 b _ (by rw [if_neg (by omega)]) rfl (ch.rf.up 3 _ (by decide)) _ _ _ hX hM ho ls (lv_sub hl [0, 1, 2, 3, 4] rfl)
                        · skip
                          refine j_iconst hC (pc := 106) dX3_wish_106 ?_
                          refine j_goto hC (pc := 107) 112 dX3_wish_107 (by decide) ?_
                          exact J112 (-1) _ (by rw [if_pos (by omega)]) rfl (ch.rf.up 3 _ (by decide)) _ _ _ hX hM ho ls (lv_sub hl [0, 1, 2, 3, 4] rfl)
                exact L67 ((wN F - (a - 1) : Int).toNat + 1) (a - 1) _ _ (by omega) (by omega) cFa cVa (by rw [show (a - 1 - a + 1).toNat = 0 by omega]; exact h19a) (by rw [show (a - 1 - a + 1).toNat = 0 by omega]; exact h31a) _ _ _ hX hM ho ls (lv_sub hl [0, 1, 2, 3, 4] rfl)
        exact L48 ((wN F - 0 : Int).toNat + 1) 0 _ _ (by omega) (by omega) (ch.rf.up 31 _ (by decide)) ch.rf rfl rfl _ _ _ hX hM ho ls (lv_sub hl [0, 1, 2, 3] rfl)
      · skip
        refine j_bipush hC (pc := 38) dX3_wish_38 (by decide) ?_
        subst hQ
        exact j_iret hC (pc := 40) hX hr hlk (Nat.le_refl _) (Nat.le_refl _) dX3_wish_40 ⟨rfl, _, _, hM, ho, ⟨by unfold op_wish; rw [if_pos (by omega), if_pos (by omega)], by unfold op_wish; rw [if_pos (by omega), if_pos (by omega)]; exact ch.rf, by unfold op_wish; rw [if_pos (by omega), if_pos (by omega)]; exact ch.rf⟩⟩
    · skip
      refine j_bipush hC (pc := 25) dX3_wish_25 (by decide) ?_
      subst hQ
      exact j_iret hC (pc := 27) hX hr hlk (Nat.le_refl _) (Nat.le_refl _) dX3_wish_27 ⟨rfl, _, _, hM, ho, ⟨by unfold op_wish; rw [if_neg (by omega)], by unfold op_wish; rw [if_neg (by omega)]; exact ch.rf, by unfold op_wish; rw [if_neg (by omega)]; exact ch.rf⟩⟩
