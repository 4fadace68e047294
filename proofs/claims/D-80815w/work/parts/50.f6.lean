/-! FairFight: a fight is set up -/
set_option maxHeartbeats 4000000 in
set_option maxRecDepth 100000 in
theorem x_manyOf (D : va_G) (T N : Nat → Nat) (l : Launch) {g0 : GH} {S : LbS} {Z : Nat → Int → Int} (hL : lR T g0 S Z) (n : Nat) (lb : Nat) (hk1 : zK S lb = 1) (hn1 : zN S lb = 3) (hv : ∀ q : Int, 0 ≤ q → q < 3 → -1 ≤ Z lb q ∧ Z lb q ≤ 15) : Met l yX0_manyOf (ws_ yX0_manyOf cX0_manyOf 2 (some .int)) ({ frames := 0, cells := 0, slots := 0, locals := 0 } : Room) (gPc D T N [.ref (zB S lb)] g0 n) (gQi D g0 n (fun r g' n' => n' = n ∧ ∃ Z', lR T g' S Z' ∧ Z' = Z ∧ r = cnR (Z lb))) 0 0 (gA g0 n) := by
  refine j_start (by decide) (Nat.le_of_ble_eq_true rfl) ?_
  intro p e s mi args below meth c hC hr hlk hnm hX ls hl
  have hC : Ct D T N (gA g0 n) p s mi args c cX0_manyOf RX0 2 := hC
  have hx := hC.x
  have hb := hC.b
  generalize hQ : MQ below _ args s 0 0 (gA g0 n) = Q
  have hl : lv_has ls 2 [(0, .ref (zB S lb))] := hl
  refine j_iconst hC (pc := 0) dX0_manyOf_0 ?_
  refine lv_istore_n (lv' := [(1, .int (iI (0))), (0, .ref (zB S lb))]) hx hb (pc := 1) dX0_manyOf_1 rfl hl (by decide) rfl (fun ls hl => ?_)
  have L2 : ∀ (fu : Nat) (i : Int) (g : GH), 3 - i < (fu : Int) → (0 ≤ i ∧ i ≤ 3) → ((0 < i → Z lb 0 ≠ -1) ∧ (1 < i → Z lb 1 ≠ -1) ∧ (2 < i → Z lb 2 ≠ -1)) → ∀ (H : Heap) (locs : List Loc), Wd D (gA g0 n) s g n H locs → lR T g S Z → ∀ (ls : Array Slot), lv_has ls 2 [(1, .int (iI (i))), (0, .ref (zB S lb))] → W p l e ({ frames := 0, cells := 0, slots := 0, locals := 0 } : Room) s mi args below meth c H locs 0 0 Q (F0 mi 2 ls []) := by
    intro fu
    induction fu with
    | zero =>
      intro i g hfu hi hd H locs hX hL ls hl
      exfalso
      omega
    | succ fu ih2 =>
      intro i g hfu hi hd H locs hX hL ls hl
      refine lv_iload_n hx hb (pc := 2) dX0_manyOf_2 rfl (lv_at hl 0 rfl) ?_
      refine j_iconst hC (pc := 3) dX0_manyOf_3 ?_
      refine j_icmp_ge hC (pc := 4) 20 dX0_manyOf_4 (by decide) (by omega) (fun c1 => ?_) (fun c1 => ?_)
      · skip
        refine lv_iload_n hx hb (pc := 20) dX0_manyOf_20 rfl (lv_at hl 0 rfl) ?_
        subst hQ
        exact j_iret hC (pc := 21) hX hr hlk (Nat.le_of_ble_eq_true rfl) (Nat.le_of_ble_eq_true rfl) dX0_manyOf_21 ⟨rfl, _, hL, ⟨rfl, by unfold cnR; rw [if_neg (by omega), if_neg (by omega), if_neg (by omega)]; omega⟩⟩
      · skip
        have hv_ := hv i (by omega) (by omega)
        refine lv_aload_n hx hb (pc := 7) dX0_manyOf_7 rfl (lv_at hl 1 rfl) ?_
        refine lv_iload_n hx hb (pc := 8) dX0_manyOf_8 rfl (lv_at hl 0 rfl) ?_
        refine L_iald hC hX hL (pc := 9) lb hk1 (L := 3) hn1 (by decide) (by omega) (z := Z lb i) (by first | rfl | (repeat rw [va_up_ne _ _ (by omega)])) dX0_manyOf_9 ?_
        refine j_iconst hC (pc := 10) dX0_manyOf_10 ?_
        refine j_icmp_eq hC (pc := 11) 20 dX0_manyOf_11 (by decide) (by omega) (fun c2 => ?_) (fun c2 => ?_)
        · skip
          refine lv_iload_n hx hb (pc := 20) dX0_manyOf_20 rfl (lv_at hl 0 rfl) ?_
          subst hQ
          exact j_iret hC (pc := 21) hX hr hlk (Nat.le_of_ble_eq_true rfl) (Nat.le_of_ble_eq_true rfl) dX0_manyOf_21 ⟨rfl, _, hL, ⟨rfl, by unfold cnR; rcases (show i = 0 ∨ i = 1 ∨ i = 2 by omega) with rfl | rfl | rfl; rw [if_pos (by omega)]; rw [if_neg (by omega), if_pos (by omega)]; rw [if_neg (by omega), if_neg (by omega), if_pos (by omega)]⟩⟩
        · skip
          refine j_iinc hC (pc := 14) (lv' := [(1, .int (iI (i + 1))), (0, .ref (zB S lb))]) dX0_manyOf_14 hl (k := 0) rfl (by decide) rfl (fun ls hl => ?_)
          refine j_goto hC (pc := 17) 2 dX0_manyOf_17 (by decide) ?_
          exact ih2 (i + 1) _ (by omega) (by omega) (by rcases (show i = 0 ∨ i = 1 ∨ i = 2 by omega) with rfl | rfl | rfl <;> omega) _ _ hX hL ls (lv_sub hl [0, 1] rfl)
  exact L2 ((3 - 0 : Int).toNat + 1) 0 _ (by omega) (by omega) ⟨fun _ => by omega, fun _ => by omega, fun _ => by omega⟩ _ _ hX hL ls (lv_sub hl [0, 1] rfl)

theorem cnR_at {f : Int → Int} {q : Int} (h : 0 ≤ q ∧ q < cnR f) : f q ≠ -1 := by
  unfold cnR at h
  have h3 := cnR_rg f
  rcases (show q = 0 ∨ q = 1 ∨ q = 2 by unfold cnR at h3; (repeat' split at h) <;> omega) with rfl | rfl | rfl <;> (repeat' split at h) <;> omega

set_option maxHeartbeats 16000000 in
set_option maxRecDepth 100000 in
theorem f6_init (D : va_G) (T N : Nat → Nat) (l : Launch) {g0 : GH} {S : LbS} {Z : Nat → Int → Int} (hL : lR T g0 S Z) (n : Nat) (x ah af : Nat) (F : Nat → Int) (V : Nat → Int → Int) (wh : Int → Int) (bo : Int) (hx0 : xRel N x S Z F V) (hI : SI F V) (hwo : rwOk F wh) (hbo : 0 ≤ bo ∧ bo ≤ 9) (hfo : zK S 201 = 26) (hah : ah < 200 ∧ zK S ah = 1 ∧ zN S ah = 3 ∧ ∀ q : Int, 0 ≤ q → q < 3 → Z ah q = wh q) (haf : af < 200 ∧ zK S af = 1 ∧ zN S af = 3 ∧ ∀ q : Int, 0 ≤ q → q < 3 → Z af q = wh (3 + q)) : Met l yX6_init (ws_ yX6_init cX6_init 11 none) ({ frames := 1, cells := 11, slots := 66, locals := 21 } : Room) (gPc D T N [.ref (zB S 201), .ref (zB S 0), .ref (zB S ah), .ref (zB S af), .int (iI (bo))] g0 n) (gQv D g0 n (fun g' n' => ∃ S' Z', lR T g' S' Z' ∧ sm S S' [201, 202, 203, 204, 205, 206, 207, 208, 209, 210, 211, 212] ∧ ch Z Z' [201, 202, 203, 204, 205, 206, 207, 208, 209, 210, 211, 212] ∧ zB S' 201 = zB S 201 ∧ fS S' Z' ∧ stR (hdW wh) (suS F V wh bo (F 5)) Z' ∧ csR (hdW wh) (Z' 201 0) (suS F V wh bo (F 5) 1) (U0 (suS F V wh bo (F 5))) (Z' 210) (Z' 211) ∧ (∀ k : Int, 0 ≤ k → k < Z' 201 0 → Z' 203 k = (if k < hdW wh then k else k - hdW wh)))) 11 66 (gA g0 n) := by
  refine j_start (by decide) (Nat.le_of_ble_eq_true rfl) ?_
  intro p e s mi args below meth c hC hr hlk hnm hX ls hl
  have hC : Ct D T N (gA g0 n) p s mi args c cX6_init RX6 11 := hC
  have hx := hC.x
  have hb := hC.b
  generalize hQ : MQ below _ args s 11 66 (gA g0 n) = Q
  have hl : lv_has ls 11 [(0, .ref (zB S 201)), (1, .ref (zB S 0)), (2, .ref (zB S ah)), (3, .ref (zB S af)), (4, .int (iI (bo)))] := hl
  have hnn := hI.nums
  have hwk := hwo.wh
  have hmW := hmW wh
  have hmW2 := hmW
  unfold hmOk at hmW2
  refine lv_aload_n hx hb (pc := 0) dX6_init_0 rfl (lv_at hl 0 rfl) ?_
  refine j_objInit hC (pc := 1) q279 hl.1 (Nat.le_of_ble_eq_true rfl) (Nat.le_of_ble_eq_true rfl) dX6_init_1 ?_
  refine lv_aload_n hx hb (pc := 4) dX6_init_4 rfl (lv_at hl 0 rfl) ?_
  refine j_bipush hC (pc := 5) dX6_init_5 (by decide) ?_
  refine L_newI hC hX hL (pc := 7) 202 0 (by decide) (atype := .int) (ty := .int) rfl rfl (fun cA h => h) rfl q103 (k := 6) rfl (by decide) (by decide) (Nat.le_of_ble_eq_true rfl) (Nat.le_of_ble_eq_true rfl) dX6_init_7 (fun g H hX hL => ?_)
  refine L_putAF hC hX hL in_X6 tyX6 tyX6_ok nmX6 (ci := 6) rfl (pc := 9) 201 hfo 2 (by decide) q293 rfl rfl hnm rfl rfl rfl (f := uI (zA S 201) 2 (some (n))) (show 2 < 12 by decide) rfl dX6_init_9 (fun g H locs hX hL => ?_)
  refine lv_aload_n hx hb (pc := 12) dX6_init_12 rfl (lv_at hl 0 rfl) ?_
  refine j_bipush hC (pc := 13) dX6_init_13 (by decide) ?_
  refine L_newI hC hX hL (pc := 15) 203 0 (by decide) (atype := .int) (ty := .int) rfl rfl (fun cA h => h) rfl q103 (k := 6) rfl (by decide) (by decide) (Nat.le_of_ble_eq_true rfl) (Nat.le_of_ble_eq_true rfl) dX6_init_15 (fun g H hX hL => ?_)
  refine L_putAF hC hX hL in_X6 tyX6 tyX6_ok nmX6 (ci := 6) rfl (pc := 17) 201 hfo 3 (by decide) q299 rfl rfl hnm rfl rfl rfl (f := uI (uI (zA S 201) 2 (some (n))) 3 (some (n + 1))) (show 3 < 12 by decide) rfl dX6_init_17 (fun g H locs hX hL => ?_)
  refine lv_aload_n hx hb (pc := 20) dX6_init_20 rfl (lv_at hl 0 rfl) ?_
  refine j_bipush hC (pc := 21) dX6_init_21 (by decide) ?_
  refine L_newI hC hX hL (pc := 23) 204 0 (by decide) (atype := .int) (ty := .int) rfl rfl (fun cA h => h) rfl q103 (k := 6) rfl (by decide) (by decide) (Nat.le_of_ble_eq_true rfl) (Nat.le_of_ble_eq_true rfl) dX6_init_23 (fun g H hX hL => ?_)
  refine L_putAF hC hX hL in_X6 tyX6 tyX6_ok nmX6 (ci := 6) rfl (pc := 25) 201 hfo 4 (by decide) q301 rfl rfl hnm rfl rfl rfl (f := uI (uI (uI (zA S 201) 2 (some (n))) 3 (some (n + 1))) 4 (some (n + 2))) (show 4 < 12 by decide) rfl dX6_init_25 (fun g H locs hX hL => ?_)
  refine lv_aload_n hx hb (pc := 28) dX6_init_28 rfl (lv_at hl 0 rfl) ?_
  refine j_bipush hC (pc := 29) dX6_init_29 (by decide) ?_
  refine L_newI hC hX hL (pc := 31) 205 0 (by decide) (atype := .int) (ty := .int) rfl rfl (fun cA h => h) rfl q103 (k := 6) rfl (by decide) (by decide) (Nat.le_of_ble_eq_true rfl) (Nat.le_of_ble_eq_true rfl) dX6_init_31 (fun g H hX hL => ?_)
  refine L_putAF hC hX hL in_X6 tyX6 tyX6_ok nmX6 (ci := 6) rfl (pc := 33) 201 hfo 5 (by decide) q302 rfl rfl hnm rfl rfl rfl (f := uI (uI (uI (uI (zA S 201) 2 (some (n))) 3 (some (n + 1))) 4 (some (n + 2))) 5 (some (n + 3))) (show 5 < 12 by decide) rfl dX6_init_33 (fun g H locs hX hL => ?_)
  refine lv_aload_n hx hb (pc := 36) dX6_init_36 rfl (lv_at hl 0 rfl) ?_
  refine j_bipush hC (pc := 37) dX6_init_37 (by decide) ?_
  refine L_newI hC hX hL (pc := 39) 206 0 (by decide) (atype := .int) (ty := .int) rfl rfl (fun cA h => h) rfl q103 (k := 6) rfl (by decide) (by decide) (Nat.le_of_ble_eq_true rfl) (Nat.le_of_ble_eq_true rfl) dX6_init_39 (fun g H hX hL => ?_)
  refine L_putAF hC hX hL in_X6 tyX6 tyX6_ok nmX6 (ci := 6) rfl (pc := 41) 201 hfo 6 (by decide) q304 rfl rfl hnm rfl rfl rfl (f := uI (uI (uI (uI (uI (zA S 201) 2 (some (n))) 3 (some (n + 1))) 4 (some (n + 2))) 5 (some (n + 3))) 6 (some (n + 4))) (show 6 < 12 by decide) rfl dX6_init_41 (fun g H locs hX hL => ?_)
  refine lv_aload_n hx hb (pc := 44) dX6_init_44 rfl (lv_at hl 0 rfl) ?_
  refine j_bipush hC (pc := 45) dX6_init_45 (by decide) ?_
  refine L_newI hC hX hL (pc := 47) 207 0 (by decide) (atype := .int) (ty := .int) rfl rfl (fun cA h => h) rfl q103 (k := 6) rfl (by decide) (by decide) (Nat.le_of_ble_eq_true rfl) (Nat.le_of_ble_eq_true rfl) dX6_init_47 (fun g H hX hL => ?_)
  refine L_putAF hC hX hL in_X6 tyX6 tyX6_ok nmX6 (ci := 6) rfl (pc := 49) 201 hfo 7 (by decide) q307 rfl rfl hnm rfl rfl rfl (f := uI (uI (uI (uI (uI (uI (zA S 201) 2 (some (n))) 3 (some (n + 1))) 4 (some (n + 2))) 5 (some (n + 3))) 6 (some (n + 4))) 7 (some (n + 5))) (show 7 < 12 by decide) rfl dX6_init_49 (fun g H locs hX hL => ?_)
  refine lv_aload_n hx hb (pc := 52) dX6_init_52 rfl (lv_at hl 0 rfl) ?_
  refine j_bipush hC (pc := 53) dX6_init_53 (by decide) ?_
  refine L_newI hC hX hL (pc := 55) 208 0 (by decide) (atype := .int) (ty := .int) rfl rfl (fun cA h => h) rfl q103 (k := 6) rfl (by decide) (by decide) (Nat.le_of_ble_eq_true rfl) (Nat.le_of_ble_eq_true rfl) dX6_init_55 (fun g H hX hL => ?_)
  refine L_putAF hC hX hL in_X6 tyX6 tyX6_ok nmX6 (ci := 6) rfl (pc := 57) 201 hfo 8 (by decide) q311 rfl rfl hnm rfl rfl rfl (f := uI (uI (uI (uI (uI (uI (uI (zA S 201) 2 (some (n))) 3 (some (n + 1))) 4 (some (n + 2))) 5 (some (n + 3))) 6 (some (n + 4))) 7 (some (n + 5))) 8 (some (n + 6))) (show 8 < 12 by decide) rfl dX6_init_57 (fun g H locs hX hL => ?_)
  refine lv_aload_n hx hb (pc := 60) dX6_init_60 rfl (lv_at hl 0 rfl) ?_
  refine j_bipush hC (pc := 61) dX6_init_61 (by decide) ?_
  refine L_newI hC hX hL (pc := 63) 209 0 (by decide) (atype := .int) (ty := .int) rfl rfl (fun cA h => h) rfl q103 (k := 6) rfl (by decide) (by decide) (Nat.le_of_ble_eq_true rfl) (Nat.le_of_ble_eq_true rfl) dX6_init_63 (fun g H hX hL => ?_)
  refine L_putAF hC hX hL in_X6 tyX6 tyX6_ok nmX6 (ci := 6) rfl (pc := 65) 201 hfo 9 (by decide) q312 rfl rfl hnm rfl rfl rfl (f := uI (uI (uI (uI (uI (uI (uI (uI (zA S 201) 2 (some (n))) 3 (some (n + 1))) 4 (some (n + 2))) 5 (some (n + 3))) 6 (some (n + 4))) 7 (some (n + 5))) 8 (some (n + 6))) 9 (some (n + 7))) (show 9 < 12 by decide) rfl dX6_init_65 (fun g H locs hX hL => ?_)
  refine lv_aload_n hx hb (pc := 68) dX6_init_68 rfl (lv_at hl 0 rfl) ?_
  refine j_bipush hC (pc := 69) dX6_init_69 (by decide) ?_
  refine L_newI hC hX hL (pc := 71) 210 0 (by decide) (atype := .int) (ty := .int) rfl rfl (fun cA h => h) rfl q103 (k := 6) rfl (by decide) (by decide) (Nat.le_of_ble_eq_true rfl) (Nat.le_of_ble_eq_true rfl) dX6_init_71 (fun g H hX hL => ?_)
  refine L_putAF hC hX hL in_X6 tyX6 tyX6_ok nmX6 (ci := 6) rfl (pc := 73) 201 hfo 10 (by decide) q315 rfl rfl hnm rfl rfl rfl (f := uI (uI (uI (uI (uI (uI (uI (uI (uI (zA S 201) 2 (some (n))) 3 (some (n + 1))) 4 (some (n + 2))) 5 (some (n + 3))) 6 (some (n + 4))) 7 (some (n + 5))) 8 (some (n + 6))) 9 (some (n + 7))) 10 (some (n + 8))) (show 10 < 12 by decide) rfl dX6_init_73 (fun g H locs hX hL => ?_)
  refine lv_aload_n hx hb (pc := 76) dX6_init_76 rfl (lv_at hl 0 rfl) ?_
  refine j_bipush hC (pc := 77) dX6_init_77 (by decide) ?_
  refine L_newI hC hX hL (pc := 79) 211 2 (by decide) (atype := .boolean) (ty := .boolean) rfl rfl (fun cA h => h) rfl q351 (k := 6) rfl (by decide) (by decide) (Nat.le_of_ble_eq_true rfl) (Nat.le_of_ble_eq_true rfl) dX6_init_79 (fun g H hX hL => ?_)
  refine L_putAF hC hX hL in_X6 tyX6 tyX6_ok nmX6 (ci := 6) rfl (pc := 81) 201 hfo 11 (by decide) q320 rfl rfl hnm rfl rfl rfl (f := uI (uI (uI (uI (uI (uI (uI (uI (uI (uI (zA S 201) 2 (some (n))) 3 (some (n + 1))) 4 (some (n + 2))) 5 (some (n + 3))) 6 (some (n + 4))) 7 (some (n + 5))) 8 (some (n + 6))) 9 (some (n + 7))) 10 (some (n + 8))) 11 (some (n + 9))) (show 11 < 12 by decide) rfl dX6_init_81 (fun g H locs hX hL => ?_)
  refine lv_aload_n hx hb (pc := 84) dX6_init_84 rfl (lv_at hl 0 rfl) ?_
  refine lv_aload_n hx hb (pc := 85) dX6_init_85 rfl (lv_at hl 1 rfl) ?_
  refine L_getN hC hX hL in_X0 (ci := 0) rfl (pc := 86) 0 hx0.T.2.2.1 4 (by decide) q153 rfl (v := .int (iI (Z 0 4))) rfl dX6_init_86 ?_
  refine j_eqi (b := F 4) hx0.n.2.2.1 ?_
  refine L_putF hC hX hL in_X6 tyX6 tyX6_ok nmX6 (ci := 6) rfl (pc := 89) 201 hfo 1 (by decide) q291 rfl rfl hnm rfl rfl rfl (f := uI (Z 201) 1 (F 4)) (show 1 < 12 by decide) rfl dX6_init_89 (fun g H locs hX hL => ?_)
  refine j_iconst hC (pc := 92) dX6_init_92 ?_
  refine lv_istore (lv' := [(5, .int (iI (0))), (0, .ref (zB S 201)), (1, .ref (zB S 0)), (2, .ref (zB S ah)), (3, .ref (zB S af)), (4, .int (iI (bo)))]) hx hb (pc := 93) dX6_init_93 hl (by decide) rfl (fun ls hl => ?_)
  refine j_bipush hC (pc := 95) dX6_init_95 (by decide) ?_
  refine L_newI hC hX hL (pc := 97) 212 0 (by decide) (atype := .int) (ty := .int) rfl rfl (fun cA h => h) rfl q103 (k := 6) rfl (by decide) (by decide) (Nat.le_of_ble_eq_true rfl) (Nat.le_of_ble_eq_true rfl) dX6_init_97 (fun g H hX hL => ?_)
  refine lv_astore (lv' := [(6, .ref (n + 10)), (5, .int (iI (0))), (0, .ref (zB S 201)), (1, .ref (zB S 0)), (2, .ref (zB S ah)), (3, .ref (zB S af)), (4, .int (iI (bo)))]) hx hb (pc := 99) dX6_init_99 hl (by decide) rfl (fun ls hl => ?_)
  refine j_iconst hC (pc := 101) dX6_init_101 ?_
  refine lv_istore (lv' := [(7, .int (iI (0))), (6, .ref (n + 10)), (5, .int (iI (0))), (0, .ref (zB S 201)), (1, .ref (zB S 0)), (2, .ref (zB S ah)), (3, .ref (zB S af)), (4, .int (iI (bo)))]) hx hb (pc := 102) dX6_init_102 hl (by decide) rfl (fun ls hl => ?_)
  have L104 : ∀ (fu : Nat) (t : Int) (n_ : Int) (g : GH) (nj104 : Nat) (S1 : LbS) (Z1 : Nat → Int → Int), 2 - t < (fu : Int) → ((t = 0 ∧ n_ = 0) ∨ (t = 1 ∧ n_ = hdW wh) ∨ (t = 2 ∧ n_ = mnW wh)) → (sm S S1 [201, 202, 203, 204, 205, 206, 207, 208, 209, 210, 211, 212]) → (shp S1 [201, 202, 203, 204, 205, 206, 207, 208, 209, 210, 211]) → (∀ i : Nat, 2 ≤ i → i < 12 → zA S1 201 (i : Int) = some (zB S1 (200 + i))) → (zB S1 201 = zB S 201) → (zK S1 212 = 1 ∧ zN S1 212 = 6) → (ch Z Z1 [201, 202, 203, 204, 205, 206, 207, 208, 209, 210, 211, 212]) → (Z1 201 1 = F 4) → (Z1 209 = fun _ => 0) → (∀ k : Int, 0 ≤ k → k < n_ → fiR V wh bo Z1 k) → ∀ (H : Heap) (locs : List Loc), Wd D (gA g0 n) s g nj104 H locs → lR T g S1 Z1 → ∀ (ls : Array Slot), lv_has ls 11 [(7, .int (iI (t))), (6, .ref (zB S1 212)), (5, .int (iI (n_))), (0, .ref (zB S1 201)), (1, .ref (zB S1 0)), (2, .ref (zB S ah)), (3, .ref (zB S af)), (4, .int (iI (bo)))] → W p l e ({ frames := 1, cells := 11, slots := 66, locals := 21 } : Room) s mi args below meth c H locs 11 66 Q (F0 mi 104 ls []) := by
    intro fu
    induction fu with
    | zero =>
      intro t n_ g nj104 S1 Z1 hfu ht hsm hfs hrf hb2 hsp hc1 haim hz9 hfill H locs hX hL ls hl
      exfalso
      omega
    | succ fu ih104 =>
      intro t n_ g nj104 S1 Z1 hfu ht hsm hfs hrf hb2 hsp hc1 haim hz9 hfill H locs hX hL ls hl
      refine lv_iload hx hb (pc := 104) dX6_init_104 (lv_at hl 0 rfl) ?_
      refine j_iconst hC (pc := 106) dX6_init_106 ?_
      refine j_icmp_ge hC (pc := 107) 259 dX6_init_107 (by decide) (by omega) (fun c1 => ?_) (fun c1 => ?_)
      · skip
        have hnm2 : n_ = mnW wh := by omega
        refine lv_aload_n hx hb (pc := 259) dX6_init_259 rfl (lv_at hl 3 rfl) ?_
        refine lv_iload hx hb (pc := 260) dX6_init_260 (lv_at hl 2 rfl) ?_
        refine L_putF hC hX hL in_X6 tyX6 tyX6_ok nmX6 (ci := 6) rfl (pc := 262) 201 (hfs.k 201 rfl) 0 (by decide) q286 rfl rfl hnm rfl rfl rfl (f := uI (Z1 201) 0 n_) (show 0 < 12 by decide) rfl dX6_init_262 (fun g H locs hX hL => ?_)
        refine j_iconst hC (pc := 265) dX6_init_265 ?_
        refine lv_istore (lv' := [(7, .int (iI (0))), (6, .ref (zB S1 212)), (5, .int (iI (n_))), (0, .ref (zB S1 201)), (1, .ref (zB S1 0)), (2, .ref (zB S ah)), (3, .ref (zB S af)), (4, .int (iI (bo)))]) hx hb (pc := 266) dX6_init_266 hl (by decide) rfl (fun ls hl => ?_)
        have L268 : ∀ (fu : Nat) (k : Int) (g : GH) (Z3 : Nat → Int → Int), 6 - k < (fu : Int) → (0 ≤ k ∧ k ≤ mnW wh) → (ch Z Z3 [201, 202, 203, 204, 205, 206, 207, 208, 209, 210, 211, 212]) → (Z3 201 0 = mnW wh) → (Z3 201 1 = F 4) → (∀ k : Int, 0 ≤ k → k < mnW wh → fiR V wh bo Z3 k) → (Z3 209 = soF (Z3 212) (fun _ => 0) k.toNat) → ∀ (H : Heap) (locs : List Loc), Wd D (gA g0 n) s g nj104 H locs → lR T g S1 Z3 → ∀ (ls : Array Slot), lv_has ls 11 [(7, .int (iI (k))), (6, .ref (zB S1 212)), (5, .int (iI (n_))), (0, .ref (zB S1 201)), (1, .ref (zB S1 0)), (2, .ref (zB S ah)), (3, .ref (zB S af)), (4, .int (iI (bo)))] → W p l e ({ frames := 1, cells := 11, slots := 66, locals := 21 } : Room) s mi args below meth c H locs 11 66 Q (F0 mi 268 ls []) := by
          intro fu
          induction fu with
          | zero =>
            intro k g Z3 hfu hk hc3 h0 haim hfill h9 H locs hX hL ls hl
            exfalso
            omega
          | succ fu ih268 =>
            intro k g Z3 hfu hk hc3 h0 haim hfill h9 H locs hX hL ls hl
            have hsp2 : ∀ y : Int, 0 ≤ y → y < mnW wh → 0 ≤ Z3 212 y ∧ Z3 212 y ≤ 20 := fun y a b => by have e := (hfill y a b).2.2.2.2.2.2.2; have rg := slF_rg hmW ⟨a, b⟩; rw [e]; rcases wh_at hwo ⟨rg.1, rg.2.1⟩ with ⟨q, _⟩ | ⟨_, q⟩; exact absurd q rg.2.2; exact numF_rg (hI.num (f := wh (slF (hdW wh) y)) (w := 5) (by omega))
            refine lv_iload hx hb (pc := 268) dX6_init_268 (lv_at hl 0 rfl) ?_
            refine lv_iload hx hb (pc := 270) dX6_init_270 (lv_at hl 2 rfl) ?_
            refine j_icmp_ge hC (pc := 272) 341 dX6_init_272 (by decide) (by omega) (fun c2 => ?_) (fun c2 => ?_)
            · skip
              have hset := set_of hI hwo hbo hfs hrf h0 haim ⟨by rw [hc3 0 (by decide)]; exact hx0.n.2.2.2.1, by rw [hc3 0 (by decide)]; exact hx0.n.2.1⟩ hfill (by rw [h9, show k.toNat = (mnW wh).toNat by omega])
              refine lv_aload_n hx hb (pc := 341) dX6_init_341 rfl (lv_at hl 3 rfl) ?_
              refine j_callv (rest := []) hX (va_runV hC.fix (f6_begins D T N l hL _ hset.1) (cwV 0 hC.ts (lw_V q281 q282 q283 q49 q284) rfl rfl rfl (by decide +kernel) ⟨Nat.le_of_ble_eq_true rfl, Nat.le_of_ble_eq_true rfl⟩) (j_preV hC hX (hL.ob 201 (hfs.k 201 rfl)) (ci := 6) (r := (RX6, TX6, 12)) rfl _) rfl rfl hl.1 rfl (Nat.le_of_ble_eq_true rfl) dX6_init_342 ⟨(Nat.le_of_ble_eq_true rfl), (Nat.le_of_ble_eq_true rfl)⟩) (fun g m4 H locs hp hle hX => ?_)
              obtain ⟨hn_, Z5, hL, hp⟩ := hp
              rw [hn_] at hX
              subst hQ
              exact j_vret hC (pc := 345) hX hr hlk (Nat.le_of_ble_eq_true rfl) (Nat.le_of_ble_eq_true rfl) dX6_init_345 ⟨_, _, hL, ⟨hsm, ch.tr hc3 hp.1 (by decide), hb2, hset.1.ch hp.1 (by decide), hset.2.ch hp.1 (by decide), beg_cs hI hwo hset.2 hset.1 hp.1 hp.2, fun y a b => by have e : Z5 201 = Z3 201 := hp.1 201 (by decide); rw [e, h0] at b; rw [hp.1 203 (by decide)]; exact (hfill y a b).2.1⟩⟩
            · skip
              refine lv_iload hx hb (pc := 275) dX6_init_275 (lv_at hl 0 rfl) ?_
              refine lv_istore (lv' := [(8, .int (iI (k))), (7, .int (iI (k))), (6, .ref (zB S1 212)), (5, .int (iI (n_))), (0, .ref (zB S1 201)), (1, .ref (zB S1 0)), (2, .ref (zB S ah)), (3, .ref (zB S af)), (4, .int (iI (bo)))]) hx hb (pc := 277) dX6_init_277 hl (by decide) rfl (fun ls hl => ?_)
              have L279 : ∀ (fu : Nat) (i : Int) (g : GH) (Z4 : Nat → Int → Int), i < (fu : Int) → (0 ≤ i ∧ i ≤ k) → (ch Z3 Z4 [209]) → (∀ j : Int, 0 ≤ j → j < i → Z4 209 j = Z3 209 j) → (insA (Z3 212) k (Z3 209) k.toNat = insA (Z3 212) k (Z4 209) i.toNat) → ∀ (H : Heap) (locs : List Loc), Wd D (gA g0 n) s g nj104 H locs → lR T g S1 Z4 → ∀ (ls : Array Slot), lv_has ls 11 [(8, .int (iI (i))), (7, .int (iI (k))), (6, .ref (zB S1 212)), (5, .int (iI (n_))), (0, .ref (zB S1 201)), (1, .ref (zB S1 0)), (2, .ref (zB S ah)), (3, .ref (zB S af)), (4, .int (iI (bo)))] → W p l e ({ frames := 1, cells := 11, slots := 66, locals := 21 } : Room) s mi args below meth c H locs 11 66 Q (F0 mi 279 ls []) := by
                intro fu
                induction fu with
                | zero =>
                  intro i g Z4 hfu hi hc4 hlow hin H locs hX hL ls hl
                  exfalso
                  omega
                | succ fu ih279 =>
                  intro i g Z4 hfu hi hc4 hlow hin H locs hX hL ls hl
                  have e212 : Z4 212 = Z3 212 := hc4 212 (by decide)
                  refine lv_iload hx hb (pc := 279) dX6_init_279 (lv_at hl 0 rfl) ?_
                  refine j_if_le hC (pc := 281) 326 dX6_init_281 (by decide) (by omega) (fun c6 => ?_) (fun c6 => ?_)
                  · skip
                    refine lv_aload_n hx hb (pc := 326) dX6_init_326 rfl (lv_at hl 4 rfl) ?_
                    refine L_getr hC hX hL in_X6 (ci := 6) rfl (pc := 327) 201 (hfs.k 201 rfl) 9 (by decide) q312 rfl (q := zA S1 201 9) (b := zB S1 209) (hrf 9 (by decide) (by decide)) rfl dX6_init_327 ?_
                    refine lv_iload hx hb (pc := 330) dX6_init_330 (lv_at hl 0 rfl) ?_
                    refine lv_iload hx hb (pc := 332) dX6_init_332 (lv_at hl 1 rfl) ?_
                    refine L_iast hC hX hL (pc := 334) 209 (hfs.k 209 rfl) (L := 6) (hfs.n 209 rfl) (by decide) (by omega) (f := uI (Z4 209) i k) rfl dX6_init_334 (fun g H locs hX hL => ?_)
                    refine j_iinc hC (pc := 335) (lv' := [(7, .int (iI (k + 1))), (8, .int (iI (i))), (6, .ref (zB S1 212)), (5, .int (iI (n_))), (0, .ref (zB S1 201)), (1, .ref (zB S1 0)), (2, .ref (zB S ah)), (3, .ref (zB S af)), (4, .int (iI (bo)))]) dX6_init_335 hl (k := 1) rfl (by decide) rfl (fun ls hl => ?_)
                    refine j_goto hC (pc := 338) 268 dX6_init_338 (by decide) ?_
                    exact ih268 (k + 1) _ _ (by omega) (by omega) ((ch.tr hc3 hc4 (by decide)).up 209 _ (by decide)) ((congrFun (hc4 201 (by decide)) 0).trans h0) ((congrFun (hc4 201 (by decide)) 1).trans haim) (fun y a b => by have := hfill y a b; unfold fiR at this ⊢; rw [show (va_up Z4 209 (uI (Z4 209) i k)) 202 = Z3 202 from hc4 202 (by decide), show (va_up Z4 209 (uI (Z4 209) i k)) 203 = Z3 203 from hc4 203 (by decide), show (va_up Z4 209 (uI (Z4 209) i k)) 204 = Z3 204 from hc4 204 (by decide), show (va_up Z4 209 (uI (Z4 209) i k)) 205 = Z3 205 from hc4 205 (by decide), show (va_up Z4 209 (uI (Z4 209) i k)) 206 = Z3 206 from hc4 206 (by decide), show (va_up Z4 209 (uI (Z4 209) i k)) 207 = Z3 207 from hc4 207 (by decide), show (va_up Z4 209 (uI (Z4 209) i k)) 208 = Z3 208 from hc4 208 (by decide), show (va_up Z4 209 (uI (Z4 209) i k)) 212 = Z3 212 from hc4 212 (by decide)]; exact this) (by show uI (Z4 209) i k = soF (Z4 212) _ _; rw [hc4 212 (by decide), show (k + 1).toNat = k.toNat + 1 by omega]; show _ = insA (Z3 212) ((k.toNat : Nat) : Int) (soF (Z3 212) (fun _ => 0) k.toNat) k.toNat; rw [← h9, Int.toNat_of_nonneg (by omega), hin]; exact (insA_z (by omega)).symm) _ _ hX hL ls (lv_sub hl [0, 2, 3, 4, 5, 6, 7, 8] rfl)
                  · skip
                    have hj_ := soF_rg (sp := Z3 212) (o := fun _ => 0) k.toNat (i - 1) (by omega) (by omega)
                    rw [← h9, ← hlow (i - 1) (by omega) (by omega)] at hj_
                    have hs1_ := hsp2 (Z4 209 (i - 1)) (by omega) (by omega)
                    have hs2_ := hsp2 k (by omega) (by omega)
                    refine lv_aload hx hb (pc := 284) dX6_init_284 (lv_at hl 2 rfl) ?_
                    refine lv_aload_n hx hb (pc := 286) dX6_init_286 rfl (lv_at hl 4 rfl) ?_
                    refine L_getr hC hX hL in_X6 (ci := 6) rfl (pc := 287) 201 (hfs.k 201 rfl) 9 (by decide) q312 rfl (q := zA S1 201 9) (b := zB S1 209) (hrf 9 (by decide) (by decide)) rfl dX6_init_287 ?_
                    refine lv_iload hx hb (pc := 290) dX6_init_290 (lv_at hl 0 rfl) ?_
                    refine j_iconst hC (pc := 292) dX6_init_292 ?_
                    refine j_isub hC (pc := 293) dX6_init_293 ?_
                    refine L_iald hC hX hL (pc := 294) 209 (hfs.k 209 rfl) (L := 6) (hfs.n 209 rfl) (by decide) (by omega) (z := Z4 209 (i - 1)) rfl dX6_init_294 ?_
                    refine L_iald hC hX hL (pc := 295) 212 hsp.1 (L := 6) hsp.2 (by decide) (by omega) (z := Z4 212 (Z4 209 (i - 1))) rfl dX6_init_295 ?_
                    refine j_eqi (b := Z3 212 (Z4 209 (i - 1))) (by rw [e212]) ?_
                    refine lv_aload hx hb (pc := 296) dX6_init_296 (lv_at hl 2 rfl) ?_
                    refine lv_iload hx hb (pc := 298) dX6_init_298 (lv_at hl 1 rfl) ?_
                    refine L_iald hC hX hL (pc := 300) 212 hsp.1 (L := 6) hsp.2 (by decide) (by omega) (z := Z4 212 k) rfl dX6_init_300 ?_
                    refine j_eqi (b := Z3 212 k) (by rw [e212]) ?_
                    refine j_icmp_ge hC (pc := 301) 326 dX6_init_301 (by decide) (by omega) (fun c7 => ?_) (fun c7 => ?_)
                    · skip
                      refine lv_aload_n hx hb (pc := 326) dX6_init_326 rfl (lv_at hl 4 rfl) ?_
                      refine L_getr hC hX hL in_X6 (ci := 6) rfl (pc := 327) 201 (hfs.k 201 rfl) 9 (by decide) q312 rfl (q := zA S1 201 9) (b := zB S1 209) (hrf 9 (by decide) (by decide)) rfl dX6_init_327 ?_
                      refine lv_iload hx hb (pc := 330) dX6_init_330 (lv_at hl 0 rfl) ?_
                      refine lv_iload hx hb (pc := 332) dX6_init_332 (lv_at hl 1 rfl) ?_
                      refine L_iast hC hX hL (pc := 334) 209 (hfs.k 209 rfl) (L := 6) (hfs.n 209 rfl) (by decide) (by omega) (f := uI (Z4 209) i k) rfl dX6_init_334 (fun g H locs hX hL => ?_)
                      refine j_iinc hC (pc := 335) (lv' := [(7, .int (iI (k + 1))), (8, .int (iI (i))), (6, .ref (zB S1 212)), (5, .int (iI (n_))), (0, .ref (zB S1 201)), (1, .ref (zB S1 0)), (2, .ref (zB S ah)), (3, .ref (zB S af)), (4, .int (iI (bo)))]) dX6_init_335 hl (k := 1) rfl (by decide) rfl (fun ls hl => ?_)
                      refine j_goto hC (pc := 338) 268 dX6_init_338 (by decide) ?_
                      exact ih268 (k + 1) _ _ (by omega) (by omega) ((ch.tr hc3 hc4 (by decide)).up 209 _ (by decide)) ((congrFun (hc4 201 (by decide)) 0).trans h0) ((congrFun (hc4 201 (by decide)) 1).trans haim) (fun y a b => by have := hfill y a b; unfold fiR at this ⊢; rw [show (va_up Z4 209 (uI (Z4 209) i k)) 202 = Z3 202 from hc4 202 (by decide), show (va_up Z4 209 (uI (Z4 209) i k)) 203 = Z3 203 from hc4 203 (by decide), show (va_up Z4 209 (uI (Z4 209) i k)) 204 = Z3 204 from hc4 204 (by decide), show (va_up Z4 209 (uI (Z4 209) i k)) 205 = Z3 205 from hc4 205 (by decide), show (va_up Z4 209 (uI (Z4 209) i k)) 206 = Z3 206 from hc4 206 (by decide), show (va_up Z4 209 (uI (Z4 209) i k)) 207 = Z3 207 from hc4 207 (by decide), show (va_up Z4 209 (uI (Z4 209) i k)) 208 = Z3 208 from hc4 208 (by decide), show (va_up Z4 209 (uI (Z4 209) i k)) 212 = Z3 212 from hc4 212 (by decide)]; exact this) (by show uI (Z4 209) i k = soF (Z4 212) _ _; rw [hc4 212 (by decide), show (k + 1).toNat = k.toNat + 1 by omega]; show _ = insA (Z3 212) ((k.toNat : Nat) : Int) (soF (Z3 212) (fun _ => 0) k.toNat) k.toNat; rw [← h9, Int.toNat_of_nonneg (by omega), hin]; exact (insA_ge (by omega) (by omega)).symm) _ _ hX hL ls (lv_sub hl [0, 2, 3, 4, 5, 6, 7, 8] rfl)
                    · skip
                      refine lv_aload_n hx hb (pc := 304) dX6_init_304 rfl (lv_at hl 4 rfl) ?_
                      refine L_getr hC hX hL in_X6 (ci := 6) rfl (pc := 305) 201 (hfs.k 201 rfl) 9 (by decide) q312 rfl (q := zA S1 201 9) (b := zB S1 209) (hrf 9 (by decide) (by decide)) rfl dX6_init_305 ?_
                      refine lv_iload hx hb (pc := 308) dX6_init_308 (lv_at hl 0 rfl) ?_
                      refine lv_aload_n hx hb (pc := 310) dX6_init_310 rfl (lv_at hl 4 rfl) ?_
                      refine L_getr hC hX hL in_X6 (ci := 6) rfl (pc := 311) 201 (hfs.k 201 rfl) 9 (by decide) q312 rfl (q := zA S1 201 9) (b := zB S1 209) (hrf 9 (by decide) (by decide)) rfl dX6_init_311 ?_
                      refine lv_iload hx hb (pc := 314) dX6_init_314 (lv_at hl 0 rfl) ?_
                      refine j_iconst hC (pc := 316) dX6_init_316 ?_
                      refine j_isub hC (pc := 317) dX6_init_317 ?_
                      refine L_iald hC hX hL (pc := 318) 209 (hfs.k 209 rfl) (L := 6) (hfs.n 209 rfl) (by decide) (by omega) (z := Z4 209 (i - 1)) rfl dX6_init_318 ?_
                      refine L_iast hC hX hL (pc := 319) 209 (hfs.k 209 rfl) (L := 6) (hfs.n 209 rfl) (by decide) (by omega) (f := uI (Z4 209) i (Z4 209 (i - 1))) rfl dX6_init_319 (fun g H locs hX hL => ?_)
                      refine j_iinc hC (pc := 320) (lv' := [(8, .int (iI (i + (-1)))), (7, .int (iI (k))), (6, .ref (zB S1 212)), (5, .int (iI (n_))), (0, .ref (zB S1 201)), (1, .ref (zB S1 0)), (2, .ref (zB S ah)), (3, .ref (zB S af)), (4, .int (iI (bo)))]) dX6_init_320 hl (k := 0) rfl (by decide) rfl (fun ls hl => ?_)
                      refine j_goto hC (pc := 323) 279 dX6_init_323 (by decide) ?_
                      exact ih279 (i + (-1)) _ _ (by omega) (by omega) (hc4.up 209 _ (by decide)) (fun j h1 h2 => (uI_n (Z4 209) (Z4 209 (i - 1)) (show j ≠ i by omega)).trans (hlow j h1 (by omega))) (by rw [hin]; exact insA_lt (by omega) (by omega)) _ _ hX hL ls (lv_sub hl [0, 1, 2, 3, 4, 5, 6, 7, 8] rfl)
              exact L279 ((k : Int).toNat + 1) k _ _ (by omega) (by omega) ch.rf (fun _ _ _ => rfl) rfl _ _ hX hL ls (lv_sub hl [0, 1, 2, 3, 4, 5, 6, 7, 8] rfl)
        exact L268 ((6 - 0 : Int).toNat + 1) 0 _ _ (by omega) (by omega) (hc1.up 201 (uI (Z1 201) 0 n_) (by decide)) ((uI_s (Z1 201) 0 n_).trans (by omega)) ((uI_n (Z1 201) n_ (show (1 : Int) ≠ 0 by decide)).trans haim) (by rw [← hnm2]; exact hfill) (by rw [show (0 : Int).toNat = 0 from rfl]; exact hz9) _ _ hX hL ls (lv_sub hl [0, 1, 2, 3, 4, 5, 6, 7] rfl)
      · skip
        have J120 : ∀ (rl : Nat) (g : GH), ((t = 0 ∧ rl = ah) ∨ (t = 1 ∧ rl = af)) → ∀ (H : Heap) (locs : List Loc), Wd D (gA g0 n) s g nj104 H locs → lR T g S1 Z1 → ∀ (ls : Array Slot), lv_has ls 11 [(7, .int (iI (t))), (6, .ref (zB S1 212)), (5, .int (iI (n_))), (0, .ref (zB S1 201)), (1, .ref (zB S1 0)), (2, .ref (zB S ah)), (3, .ref (zB S af)), (4, .int (iI (bo)))] → W p l e ({ frames := 1, cells := 11, slots := 66, locals := 21 } : Room) s mi args below meth c H locs 11 66 Q (F0 mi 120 ls [.ref (zB S rl)]) := by
          intro rl g hrl H locs hX hL ls hl
          have hbl : rl < 200 := by rcases hrl with ⟨_, y⟩ | ⟨_, y⟩; rw [y]; exact hah.1; rw [y]; exact haf.1
          have hsl_ := hsm rl (by simp; omega)
          rw [← hsl_.1]
          refine lv_astore (lv' := [(8, .ref (zB S1 rl)), (7, .int (iI (t))), (6, .ref (zB S1 212)), (5, .int (iI (n_))), (0, .ref (zB S1 201)), (1, .ref (zB S1 0)), (2, .ref (zB S ah)), (3, .ref (zB S af)), (4, .int (iI (bo)))]) hx hb (pc := 120) dX6_init_120 hl (by decide) rfl (fun ls hl => ?_)
          refine j_iconst hC (pc := 122) dX6_init_122 ?_
          refine lv_istore (lv' := [(9, .int (iI (0))), (8, .ref (zB S1 rl)), (7, .int (iI (t))), (6, .ref (zB S1 212)), (5, .int (iI (n_))), (0, .ref (zB S1 201)), (1, .ref (zB S1 0)), (2, .ref (zB S ah)), (3, .ref (zB S af)), (4, .int (iI (bo)))]) hx hb (pc := 123) dX6_init_123 hl (by decide) rfl (fun ls hl => ?_)
          have L125 : ∀ (fu : Nat) (pp : Int) (n_ : Int) (g : GH) (Z2 : Nat → Int → Int), 3 - pp < (fu : Int) → (0 ≤ pp ∧ pp ≤ 3 ∧ n_ = (if t = 0 then 0 else hdW wh) + pp ∧ n_ ≤ (if t = 0 then hdW wh else mnW wh)) → (ch Z Z2 [201, 202, 203, 204, 205, 206, 207, 208, 209, 210, 211, 212]) → (Z2 201 1 = F 4) → (Z2 209 = fun _ => 0) → (∀ k : Int, 0 ≤ k → k < n_ → fiR V wh bo Z2 k) → ∀ (H : Heap) (locs : List Loc), Wd D (gA g0 n) s g nj104 H locs → lR T g S1 Z2 → ∀ (ls : Array Slot), lv_has ls 11 [(9, .int (iI (pp))), (8, .ref (zB S1 rl)), (7, .int (iI (t))), (6, .ref (zB S1 212)), (5, .int (iI (n_))), (0, .ref (zB S1 201)), (1, .ref (zB S1 0)), (2, .ref (zB S ah)), (3, .ref (zB S af)), (4, .int (iI (bo)))] → W p l e ({ frames := 1, cells := 11, slots := 66, locals := 21 } : Room) s mi args below meth c H locs 11 66 Q (F0 mi 125 ls []) := by
            intro fu
            induction fu with
            | zero =>
              intro pp n_ g Z2 hfu hp_ hc2 haim hz9 hfill H locs hX hL ls hl
              exfalso
              omega
            | succ fu ih125 =>
              intro pp n_ g Z2 hfu hp_ hc2 haim hz9 hfill H locs hX hL ls hl
              have hx1 : xRel N x S1 Z2 F V := hx0.xk hI (xk.of12 (sm.wd hsm (by decide)) (ch.wd hc2 (by decide)) hx0.T hx0.tb)
              have hrl2 : zK S1 rl = 1 ∧ zN S1 rl = 3 ∧ rl < 200 ∧ ∀ q : Int, 0 ≤ q → q < 3 → Z2 rl q = wh (3 * t + q) := by rcases hrl with ⟨y, z⟩ | ⟨y, z⟩; subst z; exact ⟨hsl_.2.1.trans hah.2.1, hsl_.2.2.1.trans hah.2.2.1, hbl, fun q a b => by rw [hc2 rl (by simp; omega), y, show 3 * (0 : Int) + q = q by omega]; exact hah.2.2.2 q a b⟩; subst z; exact ⟨hsl_.2.1.trans haf.2.1, hsl_.2.2.1.trans haf.2.2.1, hbl, fun q a b => by rw [hc2 rl (by simp; omega), y, show 3 * (1 : Int) + q = 3 + q by omega]; exact haf.2.2.2 q a b⟩
              have hcn : cnR (Z2 rl) = if t = 0 then hdW wh else mnW wh - hdW wh := by have e0 := hrl2.2.2.2 0 (by omega) (by omega); have e1 := hrl2.2.2.2 1 (by omega) (by omega); have e2 := hrl2.2.2.2 2 (by omega) (by omega); unfold mnW hdW; rcases hrl with ⟨y, _⟩ | ⟨y, _⟩; rw [y] at e0 e1 e2; rw [if_pos y]; unfold cnR; rw [e0, e1, e2]; rfl; rw [y] at e0 e1 e2; rw [if_neg (by omega)]; unfold cnR; rw [e0, e1, e2]; show _ = _ + (if wh (3 + 0) = -1 then 0 else if wh (3 + 1) = -1 then 1 else if wh (3 + 2) = -1 then 2 else 3) - _; rw [show (3 * 1 + 0 : Int) = 3 + 0 from rfl, show (3 * 1 + 1 : Int) = 3 + 1 from rfl, show (3 * 1 + 2 : Int) = 3 + 2 from rfl]; omega
              refine lv_iload hx hb (pc := 125) dX6_init_125 (lv_at hl 0 rfl) ?_
              refine lv_aload hx hb (pc := 127) dX6_init_127 (lv_at hl 1 rfl) ?_
              refine j_calli (rest := [.int (iI (pp))]) hX (va_runSN hC.fix (x_manyOf D T N l hL _ rl hrl2.1 hrl2.2.1 (fun q y1 y2 => by have y3 := hrl2.2.2.2 q y1 y2; have y4 := hwk (3 * t + q) (by omega) (by omega); rw [y3]; omega)) ⟨va_cnB 1 hC.ts (lw_meth q251) rfl rfl rfl (hC.W.w q280 rfl) (hC.ts _ q40) (by decide +kernel) ⟨Nat.le_of_ble_eq_true rfl, Nat.le_of_ble_eq_true rfl⟩, hC.ts _ q250, trivial⟩ (j_preS hC hX _) rfl rfl hl.1 rfl (Nat.le_of_ble_eq_true rfl) dX6_init_129 ⟨(Nat.le_of_ble_eq_true rfl), (Nat.le_of_ble_eq_true rfl)⟩) (fun r8 g m9 H locs hp hle hX => ?_)
              obtain ⟨hn_, Z_, hL, hS_, hp⟩ := hp
              rw [hn_] at hX
              rw [hS_] at hL
              have hcr_ := cnR_rg (Z2 rl)
              refine j_icmp_ge hC (pc := 132) 253 dX6_init_132 (by decide) (by omega) (fun c11 => ?_) (fun c11 => ?_)
              · skip
                refine j_iinc hC (pc := 253) (lv' := [(7, .int (iI (t + 1))), (9, .int (iI (pp))), (8, .ref (zB S1 rl)), (6, .ref (zB S1 212)), (5, .int (iI (n_))), (0, .ref (zB S1 201)), (1, .ref (zB S1 0)), (2, .ref (zB S ah)), (3, .ref (zB S af)), (4, .int (iI (bo)))]) dX6_init_253 hl (k := 2) rfl (by decide) rfl (fun ls hl => ?_)
                refine j_goto hC (pc := 256) 104 dX6_init_256 (by decide) ?_
                exact ih104 (t + 1) n_ _ _ _ _ (by omega) (by omega) hsm hfs hrf hb2 hsp hc2 haim hz9 hfill _ _ hX hL ls (lv_sub hl [0, 3, 4, 5, 6, 7, 8, 9] rfl)
              · skip
                refine lv_aload_n hx hb (pc := 135) dX6_init_135 rfl (lv_at hl 6 rfl) ?_
                have hp2 : pp < cnR (Z2 rl) := by omega
                have hwn : wh (3 * t + pp) ≠ -1 ∧ 0 ≤ wh (3 * t + pp) ∧ wh (3 * t + pp) < F 0 := by have y1 := cnR_at (f := Z2 rl) (q := pp) (by omega); rw [hrl2.2.2.2 pp (by omega) (by omega)] at y1; have y2 := hwk (3 * t + pp) (by omega) (by omega); omega
                obtain ⟨w, hw_⟩ : ∃ w, w = wh (3 * t + pp) := ⟨_, rfl⟩
                rw [← hw_] at hwn
                have hfi := hx1.fi w hwn.2.1 hwn.2.2
                refine L_getrN hC hX hL in_X0 (ci := 0) rfl (pc := 136) 0 hx1.T.2.2.1 0 (by decide) q147 rfl (q := zA S1 0 0) (b := zB S1 1) hx1.r0 rfl dX6_init_136 ?_
                refine lv_aload hx hb (pc := 139) dX6_init_139 (lv_at hl 1 rfl) ?_
                refine lv_iload hx hb (pc := 141) dX6_init_141 (lv_at hl 0 rfl) ?_
                refine L_iald hC hX hL (pc := 143) rl hrl2.1 (L := 3) hrl2.2.1 (by decide) (by omega) (z := Z2 rl pp) (by first | rfl | (repeat rw [va_up_ne _ _ (by omega)])) dX6_init_143 ?_
                refine j_eqi (b := w) (by rw [hw_]; exact hrl2.2.2.2 pp (by omega) (by omega)) ?_
                refine L_aald hC hX hL (pc := 144) 1 7 (hx1.sp.k 1 rfl) (by decide) rfl rfl (L := 16) (hx1.sp.n 1 rfl) (by decide) (by omega) (b := zB S1 (32 + w.toNat)) hfi.1 dX6_init_144 ?_
                refine L_getrN hC hX hL in_X4 (ci := 4) rfl (pc := 145) (32 + w.toNat) hfi.2.1.1 0 (by decide) q224 rfl (q := zA S1 (32 + w.toNat) 0) (b := zB S1 (48 + w.toNat)) hfi.2.1.2 rfl dX6_init_145 ?_
                refine lv_astore (lv' := [(10, .ref (zB S1 (48 + w.toNat))), (9, .int (iI (pp))), (8, .ref (zB S1 rl)), (7, .int (iI (t))), (6, .ref (zB S1 212)), (5, .int (iI (n_))), (0, .ref (zB S1 201)), (1, .ref (zB S1 0)), (2, .ref (zB S ah)), (3, .ref (zB S af)), (4, .int (iI (bo)))]) hx hb (pc := 148) dX6_init_148 hl (by decide) rfl (fun ls hl => ?_)
                refine lv_aload_n hx hb (pc := 150) dX6_init_150 rfl (lv_at hl 6 rfl) ?_
                refine L_getr hC hX hL in_X6 (ci := 6) rfl (pc := 151) 201 (hfs.k 201 rfl) 2 (by decide) q293 rfl (q := zA S1 201 2) (b := zB S1 202) (hrf 2 (by decide) (by decide)) rfl dX6_init_151 ?_
                refine lv_iload hx hb (pc := 154) dX6_init_154 (lv_at hl 5 rfl) ?_
                refine lv_iload hx hb (pc := 156) dX6_init_156 (lv_at hl 3 rfl) ?_
                refine L_iast hC hX hL (pc := 158) 202 (hfs.k 202 rfl) (L := 6) (hfs.n 202 rfl) (by decide) (by omega) (f := uI (Z2 202) n_ t) rfl dX6_init_158 (fun g H locs hX hL => ?_)
                refine lv_aload_n hx hb (pc := 159) dX6_init_159 rfl (lv_at hl 6 rfl) ?_
                refine L_getr hC hX hL in_X6 (ci := 6) rfl (pc := 160) 201 (hfs.k 201 rfl) 3 (by decide) q299 rfl (q := zA S1 201 3) (b := zB S1 203) (hrf 3 (by decide) (by decide)) rfl dX6_init_160 ?_
                refine lv_iload hx hb (pc := 163) dX6_init_163 (lv_at hl 5 rfl) ?_
                refine lv_iload hx hb (pc := 165) dX6_init_165 (lv_at hl 1 rfl) ?_
                refine L_iast hC hX hL (pc := 167) 203 (hfs.k 203 rfl) (L := 6) (hfs.n 203 rfl) (by decide) (by omega) (f := uI (Z2 203) n_ pp) rfl dX6_init_167 (fun g H locs hX hL => ?_)
                refine lv_aload_n hx hb (pc := 168) dX6_init_168 rfl (lv_at hl 6 rfl) ?_
                refine L_getr hC hX hL in_X6 (ci := 6) rfl (pc := 169) 201 (hfs.k 201 rfl) 4 (by decide) q301 rfl (q := zA S1 201 4) (b := zB S1 204) (hrf 4 (by decide) (by decide)) rfl dX6_init_169 ?_
                refine lv_iload hx hb (pc := 172) dX6_init_172 (lv_at hl 5 rfl) ?_
                refine lv_aload hx hb (pc := 174) dX6_init_174 (lv_at hl 0 rfl) ?_
                refine j_iconst hC (pc := 176) dX6_init_176 ?_
                refine L_iald hC hX hL (pc := 177) (48 + w.toNat) hfi.2.2.1.1 (L := 6) hfi.2.2.1.2 (by decide) (by omega) (z := Z2 (48 + w.toNat) 0) (by first | rfl | (repeat rw [va_up_ne _ _ (by omega)])) dX6_init_177 ?_
                refine j_eqi (b := V 1 (6 * w)) (by have y := hfi.2.2.2 0 (by omega) (by omega); rw [Int.add_zero] at y; exact y) ?_
                refine L_iast hC hX hL (pc := 178) 204 (hfs.k 204 rfl) (L := 6) (hfs.n 204 rfl) (by decide) (by omega) (f := uI (Z2 204) n_ (V 1 (6 * w))) rfl dX6_init_178 (fun g H locs hX hL => ?_)
                refine lv_aload_n hx hb (pc := 179) dX6_init_179 rfl (lv_at hl 6 rfl) ?_
                refine L_getr hC hX hL in_X6 (ci := 6) rfl (pc := 180) 201 (hfs.k 201 rfl) 5 (by decide) q302 rfl (q := zA S1 201 5) (b := zB S1 205) (hrf 5 (by decide) (by decide)) rfl dX6_init_180 ?_
                refine lv_iload hx hb (pc := 183) dX6_init_183 (lv_at hl 5 rfl) ?_
                refine lv_aload hx hb (pc := 185) dX6_init_185 (lv_at hl 0 rfl) ?_
                refine j_iconst hC (pc := 187) dX6_init_187 ?_
                refine L_iald hC hX hL (pc := 188) (48 + w.toNat) hfi.2.2.1.1 (L := 6) hfi.2.2.1.2 (by decide) (by omega) (z := Z2 (48 + w.toNat) 1) (by first | rfl | (repeat rw [va_up_ne _ _ (by omega)])) dX6_init_188 ?_
                refine j_eqi (b := V 1 (6 * w + 1)) (hfi.2.2.2 1 (by omega) (by omega)) ?_
                refine L_iast hC hX hL (pc := 189) 205 (hfs.k 205 rfl) (L := 6) (hfs.n 205 rfl) (by decide) (by omega) (f := uI (Z2 205) n_ (V 1 (6 * w + 1))) rfl dX6_init_189 (fun g H locs hX hL => ?_)
                refine lv_aload_n hx hb (pc := 190) dX6_init_190 rfl (lv_at hl 6 rfl) ?_
                refine L_getr hC hX hL in_X6 (ci := 6) rfl (pc := 191) 201 (hfs.k 201 rfl) 6 (by decide) q304 rfl (q := zA S1 201 6) (b := zB S1 206) (hrf 6 (by decide) (by decide)) rfl dX6_init_191 ?_
                refine lv_iload hx hb (pc := 194) dX6_init_194 (lv_at hl 5 rfl) ?_
                refine lv_aload hx hb (pc := 196) dX6_init_196 (lv_at hl 0 rfl) ?_
                refine j_iconst hC (pc := 198) dX6_init_198 ?_
                refine L_iald hC hX hL (pc := 199) (48 + w.toNat) hfi.2.2.1.1 (L := 6) hfi.2.2.1.2 (by decide) (by omega) (z := Z2 (48 + w.toNat) 2) (by first | rfl | (repeat rw [va_up_ne _ _ (by omega)])) dX6_init_199 ?_
                refine j_eqi (b := V 1 (6 * w + 2)) (hfi.2.2.2 2 (by omega) (by omega)) ?_
                refine L_iast hC hX hL (pc := 200) 206 (hfs.k 206 rfl) (L := 6) (hfs.n 206 rfl) (by decide) (by omega) (f := uI (Z2 206) n_ (V 1 (6 * w + 2))) rfl dX6_init_200 (fun g H locs hX hL => ?_)
                refine lv_aload_n hx hb (pc := 201) dX6_init_201 rfl (lv_at hl 6 rfl) ?_
                refine L_getr hC hX hL in_X6 (ci := 6) rfl (pc := 202) 201 (hfs.k 201 rfl) 7 (by decide) q307 rfl (q := zA S1 201 7) (b := zB S1 207) (hrf 7 (by decide) (by decide)) rfl dX6_init_202 ?_
                refine lv_iload hx hb (pc := 205) dX6_init_205 (lv_at hl 5 rfl) ?_
                refine lv_aload hx hb (pc := 207) dX6_init_207 (lv_at hl 0 rfl) ?_
                refine j_iconst hC (pc := 209) dX6_init_209 ?_
                refine L_iald hC hX hL (pc := 210) (48 + w.toNat) hfi.2.2.1.1 (L := 6) hfi.2.2.1.2 (by decide) (by omega) (z := Z2 (48 + w.toNat) 3) (by first | rfl | (repeat rw [va_up_ne _ _ (by omega)])) dX6_init_210 ?_
                refine j_eqi (b := V 1 (6 * w + 3)) (hfi.2.2.2 3 (by omega) (by omega)) ?_
                refine lv_iload hx hb (pc := 211) dX6_init_211 (lv_at hl 3 rfl) ?_
                refine j_if_ne hC (pc := 213) 221 dX6_init_213 (by decide) (by omega) (fun c12 => ?_) (fun c12 => ?_)
                · skip
                  refine j_iconst hC (pc := 221) dX6_init_221 ?_
                  refine j_iadd hC (pc := 222) dX6_init_222 ?_
                  refine L_iast hC hX hL (pc := 223) 207 (hfs.k 207 rfl) (L := 6) (hfs.n 207 rfl) (by decide) (by omega) (f := uI (Z2 207) n_ ((V 1 (6 * w + 3)) + 0)) rfl dX6_init_223 (fun g H locs hX hL => ?_)
                  refine lv_aload_n hx hb (pc := 224) dX6_init_224 rfl (lv_at hl 6 rfl) ?_
                  refine L_getr hC hX hL in_X6 (ci := 6) rfl (pc := 225) 201 (hfs.k 201 rfl) 8 (by decide) q311 rfl (q := zA S1 201 8) (b := zB S1 208) (hrf 8 (by decide) (by decide)) rfl dX6_init_225 ?_
                  refine lv_iload hx hb (pc := 228) dX6_init_228 (lv_at hl 5 rfl) ?_
                  refine lv_aload hx hb (pc := 230) dX6_init_230 (lv_at hl 0 rfl) ?_
                  refine j_iconst hC (pc := 232) dX6_init_232 ?_
                  refine L_iald hC hX hL (pc := 233) (48 + w.toNat) hfi.2.2.1.1 (L := 6) hfi.2.2.1.2 (by decide) (by omega) (z := Z2 (48 + w.toNat) 4) (by first | rfl | (repeat rw [va_up_ne _ _ (by omega)])) dX6_init_233 ?_
                  refine j_eqi (b := V 1 (6 * w + 4)) (hfi.2.2.2 4 (by omega) (by omega)) ?_
                  refine L_iast hC hX hL (pc := 234) 208 (hfs.k 208 rfl) (L := 6) (hfs.n 208 rfl) (by decide) (by omega) (f := uI (Z2 208) n_ (V 1 (6 * w + 4))) rfl dX6_init_234 (fun g H locs hX hL => ?_)
                  refine lv_aload hx hb (pc := 235) dX6_init_235 (lv_at hl 4 rfl) ?_
                  refine lv_iload hx hb (pc := 237) dX6_init_237 (lv_at hl 5 rfl) ?_
                  refine lv_aload hx hb (pc := 239) dX6_init_239 (lv_at hl 0 rfl) ?_
                  refine j_iconst hC (pc := 241) dX6_init_241 ?_
                  refine L_iald hC hX hL (pc := 242) (48 + w.toNat) hfi.2.2.1.1 (L := 6) hfi.2.2.1.2 (by decide) (by omega) (z := Z2 (48 + w.toNat) 5) (by first | rfl | (repeat rw [va_up_ne _ _ (by omega)])) dX6_init_242 ?_
                  refine j_eqi (b := V 1 (6 * w + 5)) (hfi.2.2.2 5 (by omega) (by omega)) ?_
                  refine L_iast hC hX hL (pc := 243) 212 hsp.1 (L := 6) hsp.2 (by decide) (by omega) (f := uI (Z2 212) n_ (V 1 (6 * w + 5))) rfl dX6_init_243 (fun g H locs hX hL => ?_)
                  refine j_iinc hC (pc := 244) (lv' := [(5, .int (iI (n_ + 1))), (10, .ref (zB S1 (48 + w.toNat))), (9, .int (iI (pp))), (8, .ref (zB S1 rl)), (7, .int (iI (t))), (6, .ref (zB S1 212)), (0, .ref (zB S1 201)), (1, .ref (zB S1 0)), (2, .ref (zB S ah)), (3, .ref (zB S af)), (4, .int (iI (bo)))]) dX6_init_244 hl (k := 5) rfl (by decide) rfl (fun ls hl => ?_)
                  refine j_iinc hC (pc := 247) (lv' := [(9, .int (iI (pp + 1))), (5, .int (iI (n_ + 1))), (10, .ref (zB S1 (48 + w.toNat))), (8, .ref (zB S1 rl)), (7, .int (iI (t))), (6, .ref (zB S1 212)), (0, .ref (zB S1 201)), (1, .ref (zB S1 0)), (2, .ref (zB S ah)), (3, .ref (zB S af)), (4, .int (iI (bo)))]) dX6_init_247 hl (k := 2) rfl (by decide) rfl (fun ls hl => ?_)
                  refine j_goto hC (pc := 250) 125 dX6_init_250 (by decide) ?_
                  exact ih125 (pp + 1) (n_ + 1) _ _ (by omega) (by rcases hrl with ⟨y, _⟩ | ⟨y, _⟩; rw [if_pos y] at hp_ hcn ⊢; rw [if_pos y] at hp_ ⊢; omega; rw [if_neg (by omega)] at hp_ hcn ⊢; rw [if_neg (by omega)] at hp_ ⊢; omega) ((((((((hc2.up 202 _ (by decide)).up 203 _ (by decide)).up 204 _ (by decide)).up 205 _ (by decide)).up 206 _ (by decide)).up 207 _ (by decide)).up 208 _ (by decide)).up 212 _ (by decide)) haim hz9 (fiR.nx hfill (by rw [if_neg (by omega)] at hp_ hcn; rw [if_neg (by omega)] at hp_; have ek : slF (hdW wh) n_ = 3 + pp := (by unfold slF; rw [if_neg (by omega)]; omega); have ew : wh (3 + pp) = w := (by rw [hw_]; congr 1; omega); rw [ek, ew, if_neg (show ¬ n_ < hdW wh by omega), if_neg (show ¬ n_ < hdW wh by omega)]; unfold sdF; rw [if_neg (show ¬ n_ < hdW wh by omega)]; exact ⟨by omega, by omega, rfl, rfl, rfl, rfl, rfl, rfl⟩)) _ _ hX hL ls (lv_sub hl [0, 3, 4, 5, 1, 6, 7, 8, 9, 10] rfl)
                · skip
                  refine lv_iload hx hb (pc := 216) dX6_init_216 (lv_at hl 10 rfl) ?_
                  refine j_goto hC (pc := 218) 222 dX6_init_218 (by decide) ?_
                  refine j_iadd hC (pc := 222) dX6_init_222 ?_
                  refine L_iast hC hX hL (pc := 223) 207 (hfs.k 207 rfl) (L := 6) (hfs.n 207 rfl) (by decide) (by omega) (f := uI (Z2 207) n_ ((V 1 (6 * w + 3)) + bo)) rfl dX6_init_223 (fun g H locs hX hL => ?_)
                  refine lv_aload_n hx hb (pc := 224) dX6_init_224 rfl (lv_at hl 6 rfl) ?_
                  refine L_getr hC hX hL in_X6 (ci := 6) rfl (pc := 225) 201 (hfs.k 201 rfl) 8 (by decide) q311 rfl (q := zA S1 201 8) (b := zB S1 208) (hrf 8 (by decide) (by decide)) rfl dX6_init_225 ?_
                  refine lv_iload hx hb (pc := 228) dX6_init_228 (lv_at hl 5 rfl) ?_
                  refine lv_aload hx hb (pc := 230) dX6_init_230 (lv_at hl 0 rfl) ?_
                  refine j_iconst hC (pc := 232) dX6_init_232 ?_
                  refine L_iald hC hX hL (pc := 233) (48 + w.toNat) hfi.2.2.1.1 (L := 6) hfi.2.2.1.2 (by decide) (by omega) (z := Z2 (48 + w.toNat) 4) (by first | rfl | (repeat rw [va_up_ne _ _ (by omega)])) dX6_init_233 ?_
                  refine j_eqi (b := V 1 (6 * w + 4)) (hfi.2.2.2 4 (by omega) (by omega)) ?_
                  refine L_iast hC hX hL (pc := 234) 208 (hfs.k 208 rfl) (L := 6) (hfs.n 208 rfl) (by decide) (by omega) (f := uI (Z2 208) n_ (V 1 (6 * w + 4))) rfl dX6_init_234 (fun g H locs hX hL => ?_)
                  refine lv_aload hx hb (pc := 235) dX6_init_235 (lv_at hl 4 rfl) ?_
                  refine lv_iload hx hb (pc := 237) dX6_init_237 (lv_at hl 5 rfl) ?_
                  refine lv_aload hx hb (pc := 239) dX6_init_239 (lv_at hl 0 rfl) ?_
                  refine j_iconst hC (pc := 241) dX6_init_241 ?_
                  refine L_iald hC hX hL (pc := 242) (48 + w.toNat) hfi.2.2.1.1 (L := 6) hfi.2.2.1.2 (by decide) (by omega) (z := Z2 (48 + w.toNat) 5) (by first | rfl | (repeat rw [va_up_ne _ _ (by omega)])) dX6_init_242 ?_
                  refine j_eqi (b := V 1 (6 * w + 5)) (hfi.2.2.2 5 (by omega) (by omega)) ?_
                  refine L_iast hC hX hL (pc := 243) 212 hsp.1 (L := 6) hsp.2 (by decide) (by omega) (f := uI (Z2 212) n_ (V 1 (6 * w + 5))) rfl dX6_init_243 (fun g H locs hX hL => ?_)
                  refine j_iinc hC (pc := 244) (lv' := [(5, .int (iI (n_ + 1))), (10, .ref (zB S1 (48 + w.toNat))), (9, .int (iI (pp))), (8, .ref (zB S1 rl)), (7, .int (iI (t))), (6, .ref (zB S1 212)), (0, .ref (zB S1 201)), (1, .ref (zB S1 0)), (2, .ref (zB S ah)), (3, .ref (zB S af)), (4, .int (iI (bo)))]) dX6_init_244 hl (k := 5) rfl (by decide) rfl (fun ls hl => ?_)
                  refine j_iinc hC (pc := 247) (lv' := [(9, .int (iI (pp + 1))), (5, .int (iI (n_ + 1))), (10, .ref (zB S1 (48 + w.toNat))), (8, .ref (zB S1 rl)), (7, .int (iI (t))), (6, .ref (zB S1 212)), (0, .ref (zB S1 201)), (1, .ref (zB S1 0)), (2, .ref (zB S ah)), (3, .ref (zB S af)), (4, .int (iI (bo)))]) dX6_init_247 hl (k := 2) rfl (by decide) rfl (fun ls hl => ?_)
                  refine j_goto hC (pc := 250) 125 dX6_init_250 (by decide) ?_
                  exact ih125 (pp + 1) (n_ + 1) _ _ (by omega) (by rcases hrl with ⟨y, _⟩ | ⟨y, _⟩; rw [if_pos y] at hp_ hcn ⊢; rw [if_pos y] at hp_ ⊢; omega; rw [if_neg (by omega)] at hp_ hcn ⊢; rw [if_neg (by omega)] at hp_ ⊢; omega) ((((((((hc2.up 202 _ (by decide)).up 203 _ (by decide)).up 204 _ (by decide)).up 205 _ (by decide)).up 206 _ (by decide)).up 207 _ (by decide)).up 208 _ (by decide)).up 212 _ (by decide)) haim hz9 (fiR.nx hfill (by rw [if_pos (by omega)] at hp_ hcn; rw [if_pos (by omega)] at hp_; have ek : slF (hdW wh) n_ = n_ := (by unfold slF; rw [if_pos (by omega)]); have ew : wh n_ = w := (by rw [hw_]; congr 1; omega); rw [ek, ew, if_pos (show n_ < hdW wh by omega), if_pos (show n_ < hdW wh by omega)]; unfold sdF; rw [if_pos (show n_ < hdW wh by omega)]; exact ⟨by omega, by omega, rfl, rfl, rfl, rfl, rfl, rfl⟩)) _ _ hX hL ls (lv_sub hl [0, 3, 4, 5, 1, 6, 7, 8, 9, 10] rfl)
          exact L125 ((3 - 0 : Int).toNat + 1) 0 n_ _ _ (by omega) (by have h9 := hmW2; rcases hrl with ⟨y, _⟩ | ⟨y, _⟩; rw [if_pos y, if_pos y]; omega; rw [if_neg (by omega), if_neg (by omega)]; omega) hc1 haim hz9 hfill _ _ hX hL ls (lv_sub hl [0, 1, 2, 3, 4, 5, 6, 7, 8, 9] rfl)
        refine lv_iload hx hb (pc := 110) dX6_init_110 (lv_at hl 0 rfl) ?_
        refine j_if_ne hC (pc := 112) 119 dX6_init_112 (by decide) (by omega) (fun c13 => ?_) (fun c13 => ?_)
        · skip
          refine lv_aload_n hx hb (pc := 119) dX6_init_119 rfl (lv_at hl 6 rfl) ?_
          exact J120 af _ (Or.inr ⟨by omega, rfl⟩) _ _ hX hL ls (lv_sub hl [0, 1, 2, 3, 4, 5, 6, 7] rfl)
        · skip
          refine lv_aload_n hx hb (pc := 115) dX6_init_115 rfl (lv_at hl 5 rfl) ?_
          refine j_goto hC (pc := 116) 120 dX6_init_116 (by decide) ?_
          exact J120 ah _ (Or.inl ⟨by omega, rfl⟩) _ _ hX hL ls (lv_sub hl [0, 1, 2, 3, 4, 5, 6, 7] rfl)
  exact L104 ((2 - 0 : Int).toNat + 1) 0 0 _ _ _ _ (by omega) (by omega) (((((((((((((((((((((sm.rf.uN 202 _ _ _ (by decide)).uA 201 _ (by decide)).uN 203 _ _ _ (by decide)).uA 201 _ (by decide)).uN 204 _ _ _ (by decide)).uA 201 _ (by decide)).uN 205 _ _ _ (by decide)).uA 201 _ (by decide)).uN 206 _ _ _ (by decide)).uA 201 _ (by decide)).uN 207 _ _ _ (by decide)).uA 201 _ (by decide)).uN 208 _ _ _ (by decide)).uA 201 _ (by decide)).uN 209 _ _ _ (by decide)).uA 201 _ (by decide)).uN 210 _ _ _ (by decide)).uA 201 _ (by decide)).uN 211 _ _ _ (by decide)).uA 201 _ (by decide)).uN 212 _ _ _ (by decide)) (fun k hk => by simp at hk; rcases hk with rfl | rfl | rfl | rfl | rfl | rfl | rfl | rfl | rfl | rfl | rfl; exact ⟨hfo, fun z => absurd z (by decide)⟩; exact ⟨rfl, fun _ => rfl⟩; exact ⟨rfl, fun _ => rfl⟩; exact ⟨rfl, fun _ => rfl⟩; exact ⟨rfl, fun _ => rfl⟩; exact ⟨rfl, fun _ => rfl⟩; exact ⟨rfl, fun _ => rfl⟩; exact ⟨rfl, fun _ => rfl⟩; exact ⟨rfl, fun _ => rfl⟩; exact ⟨rfl, fun _ => rfl⟩; exact ⟨rfl, fun _ => rfl⟩) (fun i h1 h2 => by rcases (show i = 2 ∨ i = 3 ∨ i = 4 ∨ i = 5 ∨ i = 6 ∨ i = 7 ∨ i = 8 ∨ i = 9 ∨ i = 10 ∨ i = 11 by omega) with rfl | rfl | rfl | rfl | rfl | rfl | rfl | rfl | rfl | rfl <;> rfl) rfl ⟨rfl, rfl⟩ ((((((((((((ch.rf.up 202 _ (by decide)).up 203 _ (by decide)).up 204 _ (by decide)).up 205 _ (by decide)).up 206 _ (by decide)).up 207 _ (by decide)).up 208 _ (by decide)).up 209 _ (by decide)).up 210 _ (by decide)).up 211 _ (by decide)).up 201 _ (by decide)).up 212 _ (by decide)) rfl rfl (fun k y1 y2 => by omega) _ _ hX hL ls (lv_sub hl [0, 1, 2, 3, 4, 5, 6, 7] rfl)
