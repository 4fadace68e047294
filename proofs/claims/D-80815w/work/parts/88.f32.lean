/-! FairFight: tries, wish -/
set_option maxHeartbeats 4000000 in
set_option maxRecDepth 100000 in
theorem f0_tries (D : va_G) (T N : Nat → Nat) (l : Launch) {g0 : GH} {S : LbS} {Z : Nat → Int → Int} (hL : lR T g0 S Z) (n : Nat) (x : Nat) (F : Nat → Int) (V : Nat → Int → Int) (a b lo hi : Int) (hx0 : xRel N x S Z F V) (hI : SI F V) (ha : 0 ≤ a ∧ a < F 0) (ha5 : a ≤ 5) (hb0 : b = -1 ∨ (a ≤ b ∧ b < F 0)) (hb5_ : b ≤ 5) (hlh : 0 ≤ lo ∧ lo ≤ hi ∧ hi ≤ 1000000) (h31 : 0 ≤ F 31 ∧ F 31 < 27) : Met l yX0_tries (ws_ yX0_tries cX0_tries 7 none) ({ frames := 8, cells := 18, slots := 134, locals := 189 } : Room) (gPc D T N [.ref (zB S 0), .int (iI (a)), .int (iI (b)), .int (iI (lo)), .int (iI (hi))] g0 n) (gQv D g0 n (fun g' n' => ∃ S' Z', lR T g' S' Z' ∧ tP N x S Z F V lo hi a b S' Z')) 18 134 (gA g0 n) := by
  refine j_start (by decide) (Nat.le_of_ble_eq_true rfl) ?_
  intro p e s mi args below meth c hC hr hlk hnm hX ls hl
  have hC : Ct D T N (gA g0 n) p s mi args c cX0_tries RX0 7 := hC
  have hx := hC.x
  have hb := hC.b
  generalize hQ : MQ below _ args s 18 134 (gA g0 n) = Q
  have hl : lv_has ls 7 [(0, .ref (zB S 0)), (1, .int (iI (a))), (2, .int (iI (b))), (3, .int (iI (lo))), (4, .int (iI (hi)))] := hl
  have hnn := hI.nums
  have hxn := hx0.n
  refine j_iconst hC (pc := 0) dX0_tries_0 ?_
  refine L_newI hC hX hL (pc := 1) 100 0 (by decide) (atype := .int) (ty := .int) rfl rfl (fun cA h => h) rfl q103 (k := 3) rfl (by decide) (by decide) (Nat.le_of_ble_eq_true rfl) (Nat.le_of_ble_eq_true rfl) dX0_tries_1 (fun g H hX hL => ?_)
  refine lv_dup hx hb (pc := 3) dX0_tries_3 rfl ?_
  refine j_iconst hC (pc := 4) dX0_tries_4 ?_
  refine lv_iload_n hx hb (pc := 5) dX0_tries_5 rfl (lv_at hl 1 rfl) ?_
  refine L_iast hC hX hL (pc := 6) 100 rfl (L := 3) rfl (by decide) (by omega) (f := uI (fun _ => 0) 0 a) rfl dX0_tries_6 (fun g H locs hX hL => ?_)
  refine lv_dup hx hb (pc := 7) dX0_tries_7 rfl ?_
  refine j_iconst hC (pc := 8) dX0_tries_8 ?_
  refine lv_iload_n hx hb (pc := 9) dX0_tries_9 rfl (lv_at hl 2 rfl) ?_
  refine L_iast hC hX hL (pc := 10) 100 rfl (L := 3) rfl (by decide) (by omega) (f := uI (uI (fun _ => 0) 0 a) 1 b) rfl dX0_tries_10 (fun g H locs hX hL => ?_)
  refine lv_dup hx hb (pc := 11) dX0_tries_11 rfl ?_
  refine j_iconst hC (pc := 12) dX0_tries_12 ?_
  refine j_iconst hC (pc := 13) dX0_tries_13 ?_
  refine L_iast hC hX hL (pc := 14) 100 rfl (L := 3) rfl (by decide) (by omega) (f := uI (uI (uI (fun _ => 0) 0 a) 1 b) 2 (-1)) rfl dX0_tries_14 (fun g H locs hX hL => ?_)
  refine lv_astore (lv' := [(5, .ref (n)), (0, .ref (zB S 0)), (1, .int (iI (a))), (2, .int (iI (b))), (3, .int (iI (lo))), (4, .int (iI (hi)))]) hx hb (pc := 15) dX0_tries_15 hl (by decide) rfl (fun ls hl => ?_)
  refine lv_aload_n hx hb (pc := 17) dX0_tries_17 rfl (lv_at hl 1 rfl) ?_
  refine lv_aload_n hx hb (pc := 18) dX0_tries_18 rfl (lv_at hl 1 rfl) ?_
  refine L_getr hC hX hL in_X0 (ci := 0) rfl (pc := 19) 0 hx0.T.2.2.1 2 (by decide) q150 rfl (q := zA S 0 2) (b := zB S 2) hx0.r2 rfl dX0_tries_19 ?_
  refine j_iconst hC (pc := 22) dX0_tries_22 ?_
  refine L_aald hC hX hL (pc := 23) 2 5 (hx0.sp.k 2 rfl) (by decide) rfl rfl (L := 2) (hx0.sp.n 2 rfl) (by decide) (by omega) (b := zB S 3) (show _ from hx0.e.1.1) dX0_tries_23 ?_
  refine lv_aload hx hb (pc := 24) dX0_tries_24 (lv_at hl 0 rfl) ?_
  refine j_iconst hC (pc := 26) dX0_tries_26 ?_
  have hx1 := xRel.kpL hL hx0 hI (ks := [100]) (sm.rf.uN 100 _ _ _ (by decide)) ((((ch.rf.up 100 _ (by decide)).up 100 _ (by decide)).up 100 _ (by decide)).up 100 _ (by decide)) (by decide)
  refine j_calli (rest := []) hX (va_runV hC.fix (f0_chanceOf D T N l hL _ _ _ _ 3 100 (whP V a b) 0 hx1 hI (rwP hI ha hb0) (by decide) (rwA.kp (f := whP V a b) ⟨by decide, hx0.sp.k 3 rfl, hx0.sp.n 3 rfl, fun q y1 y2 => by rw [(hx0.si q y1 y2).1]; show _ = whP V a b q; unfold whP; rw [if_neg (by omega), if_neg (by omega), if_neg (by omega)]⟩ (sk.of (show sm S _ [100] from (sm.rf.uN 100 _ _ _ (by decide))) (show ch Z _ [100] from ((((ch.rf.up 100 _ (by decide)).up 100 _ (by decide)).up 100 _ (by decide)).up 100 _ (by decide))) (by decide) (by decide))) ⟨by decide, rfl, rfl, fun q y1 y2 => by rcases (show q = 0 ∨ q = 1 ∨ q = 2 by omega) with rfl | rfl | rfl; rfl; (show b = (if b < a then -1 else b); split <;> omega); rfl⟩) (cwV 3 hC.ts (lw_V q477 q479 qs7 q40 q480) rfl rfl rfl (by decide +kernel) ⟨Nat.le_of_ble_eq_true rfl, Nat.le_of_ble_eq_true rfl⟩) (j_preV hC hX (hL.ob 0 hx0.T.2.2.1) (ci := 0) (r := (RX0, TX0, 18)) rfl _) rfl rfl hl.1 rfl (Nat.le_of_ble_eq_true rfl) dX0_tries_27 ⟨(Nat.le_of_ble_eq_true rfl), (Nat.le_of_ble_eq_true rfl)⟩) (fun r1 g m2 H locs hp hle hX => ?_)
  obtain ⟨S3, Z3, hL, hp⟩ := hp
  obtain ⟨hro_, hkk⟩ := hp
  have hx3 := hx1.xk hI hkk
  have hrg : r1 = -5 ∨ (0 ≤ r1 ∧ r1 ≤ 1000000) := by rw [hro_]; exact oddW_rg hI (whP_ok hI ha (by omega)) (by omega) hnn.2.2.2.1
  have hsk3 : ∀ k, 222 ≤ k → sk S Z S3 Z3 k := fun k hk => (sk.of (show sm S _ [100] from (sm.rf.uN 100 _ _ _ (by decide))) (show ch Z _ [100] from ((((ch.rf.up 100 _ (by decide)).up 100 _ (by decide)).up 100 _ (by decide)).up 100 _ (by decide))) (by simp; omega) (by simp; omega)).tr (hkk.1 k (Or.inr hk) (by simp; omega))
  have g0_ : zB S3 0 = zB S 0 := hx3.b0.trans hx0.b0.symm
  rw [← g0_] at hl
  refine lv_istore (lv' := [(6, .int (iI (r1))), (5, .ref (n)), (0, .ref (zB S3 0)), (1, .int (iI (a))), (2, .int (iI (b))), (3, .int (iI (lo))), (4, .int (iI (hi)))]) hx hb (pc := 30) dX0_tries_30 hl (by decide) rfl (fun ls hl => ?_)
  refine lv_iload hx hb (pc := 32) dX0_tries_32 (lv_at hl 0 rfl) ?_
  refine j_bipush hC (pc := 34) dX0_tries_34 (by decide) ?_
  refine j_icmp_eq hC (pc := 36) 83 dX0_tries_36 (by decide) (by omega) (fun c4 => ?_) (fun c4 => ?_)
  · skip
    subst hQ
    exact j_vret hC (pc := 83) hX hr hlk (Nat.le_of_ble_eq_true rfl) (Nat.le_of_ble_eq_true rfl) dX0_tries_83 ⟨_, _, hL, (tP.same hsk3 hx3 (by rw [← hro_]; omega))⟩
  · skip
    refine lv_iload hx hb (pc := 39) dX0_tries_39 (lv_at hl 0 rfl) ?_
    refine lv_iload_n hx hb (pc := 41) dX0_tries_41 rfl (lv_at hl 5 rfl) ?_
    refine lv_iload hx hb (pc := 42) dX0_tries_42 (lv_at hl 6 rfl) ?_
    refine j_calli (rest := []) hX (va_runS hC.fix (f0_in D T N l r1 lo hi (by omega) _ _) (va_cwS 3 hC.ts (lw_S q215 q216 q40 q217) rfl rfl rfl (by decide +kernel) ⟨Nat.le_of_ble_eq_true rfl, Nat.le_of_ble_eq_true rfl⟩) (j_preS hC hX _) rfl rfl hl.1 rfl (Nat.le_of_ble_eq_true rfl) dX0_tries_44 ⟨(Nat.le_of_ble_eq_true rfl), (Nat.le_of_ble_eq_true rfl)⟩) (fun r5 g m6 H locs hp hle hX => ?_)
    obtain ⟨hn_, hg_, hp⟩ := hp
    rw [hn_, hg_] at hX
    have hq_ := inF_of hp
    refine j_if_eq hC (pc := 47) 83 dX0_tries_47 (by decide) (by omega) (fun c7 => ?_) (fun c7 => ?_)
    · skip
      subst hQ
      exact j_vret hC (pc := 83) hX hr hlk (Nat.le_of_ble_eq_true rfl) (Nat.le_of_ble_eq_true rfl) dX0_tries_83 ⟨_, _, hL, (tP.same hsk3 hx3 (by rw [← hro_]; omega))⟩
    · skip
      refine lv_aload_n hx hb (pc := 50) dX0_tries_50 rfl (lv_at hl 2 rfl) ?_
      refine L_getr hC hX hL in_X0 (ci := 0) rfl (pc := 51) 0 hx3.T.2.2.1 13 (by decide) q166 rfl (q := zA S3 0 13) (b := zB S3 14) hx3.r13 rfl dX0_tries_51 ?_
      have J76 : ∀ (v : Int) (g : GH), (0 ≤ v ∧ v ≤ 400) → (v = if b < a then 256 + 16 * a else 16 * a + b) → ∀ (H : Heap) (locs : List Loc), Wd D (gA g0 n) s g m2 H locs → lR T g S3 Z3 → ∀ (ls : Array Slot), lv_has ls 7 [(6, .int (iI (r1))), (5, .ref (n)), (0, .ref (zB S3 0)), (1, .int (iI (a))), (2, .int (iI (b))), (3, .int (iI (lo))), (4, .int (iI (hi)))] → W p l e ({ frames := 8, cells := 18, slots := 134, locals := 189 } : Room) s mi args below meth c H locs 16 100 Q (F0 mi 76 ls [.int (iI (v)), .ref (zB S3 14)]) := by
        intro v g hv hvv H locs hX hL ls hl
        refine j_callq (rest := [.ref (zB S3 14)]) hX (va_runS hC.fix (i_of D T N l hL _ v (by omega)) (va_cwS 1 hC.ts (lw_S q636 q637 q57 q638) rfl rfl rfl (by decide +kernel) ⟨Nat.le_of_ble_eq_true rfl, Nat.le_of_ble_eq_true rfl⟩) (j_preS hC hX _) rfl rfl hl.1 rfl (Nat.le_of_ble_eq_true rfl) dX0_tries_76 ⟨(Nat.le_of_ble_eq_true rfl), (Nat.le_of_ble_eq_true rfl)⟩) (fun r8 g m9 H locs hp hle hX => ?_)
        obtain ⟨S4, Z4, hL, hp⟩ := hp
        obtain ⟨b4, hr4, hb4, hs4, hc4, hi4⟩ := iof_u hp
        rw [hr4]
        have hx4 := xRel.kpL hL hx3 hI (ks := [102]) hs4 hc4 (by decide)
        have hsk4 : ∀ k, 222 ≤ k → sk S Z S4 Z4 k := fun k hk => (hsk3 k hk).tr (sk.of hs4 hc4 (by simp; omega) (by simp; omega))
        have g14_ : zB S4 14 = zB S3 14 := (hs4 14 (by decide)).1
        rw [← g14_]
        rcases (show (F 31 = 0 ∧ zA S4 14 1 = some (N 4)) ∨ ((zA S4 14 1 = some (zB S4 25) ∧ zK S4 25 = 10 ∧ (zN S4 25 = 10 ∨ zN S4 25 = 15 ∨ zN S4 25 = 22 ∨ zN S4 25 = 33) ∧ F 31 ≤ zN S4 25) ∧ F 31 < zN S4 25) ∨ ((zA S4 14 1 = some (zB S4 25) ∧ zK S4 25 = 10 ∧ (zN S4 25 = 10 ∨ zN S4 25 = 15 ∨ zN S4 25 = 22 ∨ zN S4 25 = 33) ∧ F 31 ≤ zN S4 25) ∧ F 31 = zN S4 25) from hx4.bd.2.1.imp id (fun q => by rcases (show F 31 < zN S4 25 ∨ F 31 = zN S4 25 by omega) with z | z; exact Or.inl ⟨q, z⟩; exact Or.inr ⟨q, z⟩)) with ⟨hE0, hem⟩ | ⟨⟨hN1, hN2, hN3, hN4⟩, hFz⟩ | ⟨⟨hN1, hN2, hN3, hN4⟩, hFz⟩
        · skip
          refine j_calli (rest := []) hX (va_runV hC.fix (l_addE14 D T N l hL _ b4 "java/lang/Integer" (hx4.sp.k 14 rfl) hem (hx4.bd.1.trans hE0) q1294 (fun hC hX hL hs => hv_int hs (by decide) hv.1 (fun q => (hi4 q).1) hb4 hC hX hL)) (cwV 1 hC.ts (lw_V q524 q525 q526 q44 q527) rfl rfl rfl (by decide +kernel) ⟨Nat.le_of_ble_eq_true rfl, Nat.le_of_ble_eq_true rfl⟩) (j_preV hC hX (hL.ob 14 (hx4.sp.k 14 rfl)) (ci := 7) (r := (RJ2, TJ2, 3)) rfl _) rfl rfl hl.1 rfl (Nat.le_of_ble_eq_true rfl) dX0_tries_79 ⟨(Nat.le_of_ble_eq_true rfl), (Nat.le_of_ble_eq_true rfl)⟩) (fun r11 g m12 H locs hp hle hX => ?_)
          obtain ⟨S5, Z5, hL, hp⟩ := hp
          obtain ⟨hr_, hSS, hc_, hzz⟩ := hp
          have hsm5 : sm S4 S5 [14, 25, 104] := by rw [hSS]; exact ((sm.rf.uN 25 _ _ _ (by decide)).uA 14 _ (by decide)).uA 25 _ (by decide)
          have hch5 : ch Z4 Z5 [14, 25, 104] := ch.wd hc_ (by decide)
          have hk5 : ∀ k, k < 97 → k ≠ 14 → k ≠ 25 → sk S4 Z4 S5 Z5 k := fun k q1 q2 q3 => sk.of hsm5 hch5 (by simp; omega) (by simp; omega)
          have hi5 : 127 < v → zK S5 102 = 28 ∧ Z5 102 0 = v := fun q => ⟨(hsm5 102 (by decide)).2.1.trans (hi4 q).1, (congrFun (hch5 102 (by decide)) 0).trans (hi4 q).2⟩
          have hb5 : b4 = if v ≤ 127 then N (6 + (128 + v).toNat) else zB S5 102 := by rw [(hsm5 102 (by decide)).1]; exact hb4
          refine lv_pop hx hb (pc := 82) dX0_tries_82 rfl ?_
          subst hQ
          exact j_vret hC (pc := 83) hX hr hlk (Nat.le_of_ble_eq_true rfl) (Nat.le_of_ble_eq_true rfl) dX0_tries_83 ⟨_, _, ((hL.pm (sw_sw 102 (70 + (F 31).toNat))).pm (sw_sw 25 25)), (tP.more (fun k hk => (((hsk4 k hk).tr (sk.of hsm5 hch5 (by simp; omega) (by simp; omega))).swp (by omega) (by omega)).swp (by omega) (by omega)) (hx4.addB hI h31.2 (e := 25) (Or.inl rfl) hk5 (by rw [hSS]; exact ⟨rfl, rfl, rfl⟩) (hzz.trans (by omega)) (by rw [hSS]; exact ⟨rfl, rfl, Or.inl rfl, by rw [hE0]; exact (show (0 : Int) + 1 ≤ ((10 : Nat) : Int) by decide)⟩) (fun k q1 q2 => by omega) (by rw [hSS, hE0]; rfl) hb5 hi5) hvv (by rw [← hro_]; omega))⟩
        · skip
          refine j_calli (rest := []) hX (va_runV hC.fix (l_addN14 D T N l hL _ b4 "java/lang/Integer" (zN S4 25) (hx4.sp.k 14 rfl) hN1 ⟨hN2, rfl⟩ (by omega) (by rw [hx4.bd.1]; omega) q1294 (fun hC hX hL hs => hv_int hs (by decide) hv.1 (fun q => (hi4 q).1) hb4 hC hX hL)) (cwV 1 hC.ts (lw_V q524 q525 q526 q44 q527) rfl rfl rfl (by decide +kernel) ⟨Nat.le_of_ble_eq_true rfl, Nat.le_of_ble_eq_true rfl⟩) (j_preV hC hX (hL.ob 14 (hx4.sp.k 14 rfl)) (ci := 7) (r := (RJ2, TJ2, 3)) rfl _) rfl rfl hl.1 rfl (Nat.le_of_ble_eq_true rfl) dX0_tries_79 ⟨(Nat.le_of_ble_eq_true rfl), (Nat.le_of_ble_eq_true rfl)⟩) (fun r14 g m15 H locs hp hle hX => ?_)
          obtain ⟨S5, Z5, hL, hp⟩ := hp
          obtain ⟨hr_, hSS, hc_, hzz⟩ := hp
          have hsm5 : sm S4 S5 [14, 25, 104] := by rw [hSS]; exact sm.rf.uA 25 _ (by decide)
          have hch5 : ch Z4 Z5 [14, 25, 104] := ch.wd hc_ (by decide)
          have hk5 : ∀ k, k < 97 → k ≠ 14 → k ≠ 25 → sk S4 Z4 S5 Z5 k := fun k q1 q2 q3 => sk.of hsm5 hch5 (by simp; omega) (by simp; omega)
          have hi5 : 127 < v → zK S5 102 = 28 ∧ Z5 102 0 = v := fun q => ⟨(hsm5 102 (by decide)).2.1.trans (hi4 q).1, (congrFun (hch5 102 (by decide)) 0).trans (hi4 q).2⟩
          have hb5 : b4 = if v ≤ 127 then N (6 + (128 + v).toNat) else zB S5 102 := by rw [(hsm5 102 (by decide)).1]; exact hb4
          refine lv_pop hx hb (pc := 82) dX0_tries_82 rfl ?_
          subst hQ
          exact j_vret hC (pc := 83) hX hr hlk (Nat.le_of_ble_eq_true rfl) (Nat.le_of_ble_eq_true rfl) dX0_tries_83 ⟨_, _, ((hL.pm (sw_sw 102 (70 + (F 31).toNat))).pm (sw_sw 25 25)), (tP.more (fun k hk => (((hsk4 k hk).tr (sk.of hsm5 hch5 (by simp; omega) (by simp; omega))).swp (by omega) (by omega)).swp (by omega) (by omega)) (hx4.addB hI h31.2 (e := 25) (Or.inl rfl) hk5 (by rw [hSS]; exact ⟨rfl, rfl, rfl⟩) (hzz.trans (by rw [hx4.bd.1])) (by rw [hSS]; exact ⟨hN1, hN2, hN3, (show F 31 + 1 ≤ (zN S4 25 : Int) by omega)⟩) (fun k q1 q2 => by rw [hSS]; exact uI_n (zA S4 25) _ (show k ≠ Z4 14 2 by rw [hx4.bd.1]; omega)) (by rw [hSS, ← hx4.bd.1]; exact uI_s (zA S4 25) (Z4 14 2) _) hb5 hi5) hvv (by rw [← hro_]; omega))⟩
        · skip
          refine j_calli (rest := []) hX (va_runV hC.fix (l_addG D T N l hL _ b4 "java/lang/Integer" (zN S4 25) (hx4.sp.k 14 rfl) hN1 ⟨hN2, rfl⟩ (by omega) (fun hC hX hL hs i h0 h1 y hy => hel_int hs (fun k q1 q2 => by simp; omega) hx4 (fun k q1 q2 => (hI.i19 ⟨q1, q2⟩).1) (by omega) hC hX hL h0 (by omega) hy) (by rw [hx4.bd.1]; omega) q1294 (fun hC hX hL hs => hv_int hs (by decide) hv.1 (fun q => (hi4 q).1) hb4 hC hX hL)) (cwV 1 hC.ts (lw_V q524 q525 q526 q44 q527) rfl rfl rfl (by decide +kernel) ⟨Nat.le_of_ble_eq_true rfl, Nat.le_of_ble_eq_true rfl⟩) (j_preV hC hX (hL.ob 14 (hx4.sp.k 14 rfl)) (ci := 7) (r := (RJ2, TJ2, 3)) rfl _) rfl rfl hl.1 rfl (Nat.le_of_ble_eq_true rfl) dX0_tries_79 ⟨(Nat.le_of_ble_eq_true rfl), (Nat.le_of_ble_eq_true rfl)⟩) (fun r17 g m18 H locs hp hle hX => ?_)
          obtain ⟨S5, Z5, hL, hp⟩ := hp
          obtain ⟨hr_, hSS, hc_, hzz⟩ := hp
          have hsm5 : sm S4 S5 [14, 25, 104] := by rw [hSS]; exact (((sm.rf.uN 104 _ _ _ (by decide)).uA 104 _ (by decide)).uA 14 _ (by decide)).uA 104 _ (by decide)
          have hch5 : ch Z4 Z5 [14, 25, 104] := ch.wd hc_ (by decide)
          have hk5 : ∀ k, k < 97 → k ≠ 14 → k ≠ 25 → sk S4 Z4 S5 Z5 k := fun k q1 q2 q3 => sk.of hsm5 hch5 (by simp; omega) (by simp; omega)
          have hi5 : 127 < v → zK S5 102 = 28 ∧ Z5 102 0 = v := fun q => ⟨(hsm5 102 (by decide)).2.1.trans (hi4 q).1, (congrFun (hch5 102 (by decide)) 0).trans (hi4 q).2⟩
          have hb5 : b4 = if v ≤ 127 then N (6 + (128 + v).toNat) else zB S5 102 := by rw [(hsm5 102 (by decide)).1]; exact hb4
          refine lv_pop hx hb (pc := 82) dX0_tries_82 rfl ?_
          subst hQ
          exact j_vret hC (pc := 83) hX hr hlk (Nat.le_of_ble_eq_true rfl) (Nat.le_of_ble_eq_true rfl) dX0_tries_83 ⟨_, _, ((hL.pm (sw_sw 102 (70 + (F 31).toNat))).pm (sw_sw 25 104)), (tP.more (fun k hk => (((hsk4 k hk).tr (sk.of hsm5 hch5 (by simp; omega) (by simp; omega))).swp (by omega) (by omega)).swp (by omega) (by omega)) (hx4.addB hI h31.2 (e := 104) (Or.inr rfl) hk5 (by rw [hSS]; exact ⟨rfl, rfl, rfl⟩) (hzz.trans (by omega)) (by rw [hSS]; exact ⟨rfl, rfl, (show (zN S4 25 + zN S4 25 / 2 = 10 ∨ zN S4 25 + zN S4 25 / 2 = 15 ∨ zN S4 25 + zN S4 25 / 2 = 22 ∨ zN S4 25 + zN S4 25 / 2 = 33) by omega), (show F 31 + 1 ≤ ((zN S4 25 + zN S4 25 / 2 : Nat) : Int) by omega)⟩) (fun k q1 q2 => by rw [hSS]; exact (uI_n (cpR (zA S4 25) (fun _ => none) 0 0 ((zN S4 25 : Nat) : Int)) _ (show k ≠ ((zN S4 25 : Nat) : Int) by omega)).trans (cpR_s ⟨q1, by omega⟩)) (by rw [hSS, hFz]; exact uI_s (cpR (zA S4 25) (fun _ => none) 0 0 ((zN S4 25 : Nat) : Int)) ((zN S4 25 : Nat) : Int) _) hb5 hi5) hvv (by rw [← hro_]; omega))⟩
      refine lv_iload_n hx hb (pc := 54) dX0_tries_54 rfl (lv_at hl 4 rfl) ?_
      refine j_iconst hC (pc := 55) dX0_tries_55 ?_
      refine j_icmp_ne hC (pc := 56) 70 dX0_tries_56 (by decide) (by omega) (fun c20 => ?_) (fun c20 => ?_)
      · skip
        refine j_bipush hC (pc := 70) dX0_tries_70 (by decide) ?_
        refine lv_iload_n hx hb (pc := 72) dX0_tries_72 rfl (lv_at hl 3 rfl) ?_
        refine j_imul hC (pc := 73) dX0_tries_73 ?_
        refine lv_iload_n hx hb (pc := 74) dX0_tries_74 rfl (lv_at hl 4 rfl) ?_
        refine j_iadd hC (pc := 75) dX0_tries_75 ?_
        exact J76 ((16 * a) + b) _ (by omega) (by split <;> omega) _ _ hX hL ls (lv_sub hl [0, 1, 2, 3, 4, 5, 6] rfl)
      · skip
        refine j_sipush hC (pc := 59) dX0_tries_59 (by decide) ?_
        refine j_bipush hC (pc := 62) dX0_tries_62 (by decide) ?_
        refine lv_iload_n hx hb (pc := 64) dX0_tries_64 rfl (lv_at hl 3 rfl) ?_
        refine j_imul hC (pc := 65) dX0_tries_65 ?_
        refine j_iadd hC (pc := 66) dX0_tries_66 ?_
        refine j_goto hC (pc := 67) 76 dX0_tries_67 (by decide) ?_
        exact J76 (256 + (16 * a)) _ (by omega) (by split <;> omega) _ _ hX hL ls (lv_sub hl [0, 1, 2, 3, 4, 5, 6] rfl)

set_option maxHeartbeats 16000000 in
set_option maxRecDepth 100000 in
theorem f0_wish (D : va_G) (T N : Nat → Nat) (l : Launch) {g0 : GH} {S : LbS} {Z : Nat → Int → Int} (hL : lR T g0 S Z) (n : Nat) (x : Nat) (F : Nat → Int) (V : Nat → Int → Int) (lo hi : Int) (hx0 : xRel N x S Z F V) (hI : SI F V) (hg : (-2147483648 ≤ lo ∧ lo ≤ 2147483647) ∧ (-2147483648 ≤ hi ∧ hi ≤ 2147483647)) : Met l yX0_wish (ws_ yX0_wish cX0_wish 6 (some .int)) ({ frames := 9, cells := 774, slots := 5762, locals := 215 } : Room) (gPc D T N [.ref (zB S 0), .int (iI (lo)), .int (iI (hi))] g0 n) (gQi D g0 n (fun r g' n' => ∃ S' Z', lR T g' S' Z' ∧ xP N x S Z (op_wish F V lo hi) r S' Z')) 774 5762 (gA g0 n) := by
  refine j_start (by decide) (Nat.le_of_ble_eq_true rfl) ?_
  intro p e s mi args below meth c hC hr hlk hnm hX ls hl
  have hC : Ct D T N (gA g0 n) p s mi args c cX0_wish RX0 6 := hC
  have hx := hC.x
  have hb := hC.b
  generalize hQ : MQ below _ args s 774 5762 (gA g0 n) = Q
  have hl : lv_has ls 6 [(0, .ref (zB S 0)), (1, .int (iI (lo))), (2, .int (iI (hi)))] := hl
  have hnn := hI.nums
  have hxn := hx0.n
  have hwn : 0 ≤ wN F ∧ wN F ≤ 6 ∧ wN F ≤ F 0 := by unfold wN; split <;> omega
  have hs0_ := hx0.si 0 (by decide) (by decide)
  have h2_ := hI.w2 0 (by decide) (by decide)
  refine lv_iload_n hx hb (pc := 0) dX0_wish_0 rfl (lv_at hl 1 rfl) ?_
  refine j_iconst hC (pc := 1) dX0_wish_1 ?_
  refine j_ldc hC (pc := 2) (z := 1000000) q630 dX0_wish_2 rfl ?_
  refine j_calli (rest := []) hX (va_runS hC.fix (f0_in D T N l lo 0 1000000 (by omega) _ _) (va_cwS 3 hC.ts (lw_S q215 q216 q40 q217) rfl rfl rfl (by decide +kernel) ⟨Nat.le_of_ble_eq_true rfl, Nat.le_of_ble_eq_true rfl⟩) (j_preS hC hX _) rfl rfl hl.1 rfl (Nat.le_of_ble_eq_true rfl) dX0_wish_4 ⟨(by first | exact Nat.le_of_ble_eq_true rfl | (show _ ≤ (774 : Nat); omega) | (show _ ≤ (5762 : Nat); omega)), (by first | exact Nat.le_of_ble_eq_true rfl | (show _ ≤ (774 : Nat); omega) | (show _ ≤ (5762 : Nat); omega))⟩) (fun r1 g m2 H locs hp hle hX => ?_)
  obtain ⟨hn_, hg_, hp⟩ := hp
  rw [hn_, hg_] at hX
  have hq_r1 := inF_of hp
  refine j_if_eq hC (pc := 7) 20 dX0_wish_7 (by decide) (by omega) (fun c3 => ?_) (fun c3 => ?_)
  · skip
    refine j_bipush hC (pc := 20) dX0_wish_20 (by decide) ?_
    subst hQ
    exact j_iret hC (pc := 22) hX hr hlk (by first | exact Nat.le_of_ble_eq_true rfl | (show _ ≤ (774 : Nat); omega) | (show _ ≤ (5762 : Nat); omega)) (by first | exact Nat.le_of_ble_eq_true rfl | (show _ ≤ (774 : Nat); omega) | (show _ ≤ (5762 : Nat); omega)) dX0_wish_22 ⟨_, _, hL, ⟨by show _ = (op_wish F V lo hi).1; unfold op_wish; rw [if_neg (by omega)], (fun k hk => sk.rf), by show xRel N x S Z (op_wish F V lo hi).2.1 (op_wish F V lo hi).2.2; unfold op_wish; rw [if_neg (by omega)]; exact hx0⟩⟩
  · skip
    refine lv_iload_n hx hb (pc := 10) dX0_wish_10 rfl (lv_at hl 2 rfl) ?_
    refine lv_iload_n hx hb (pc := 11) dX0_wish_11 rfl (lv_at hl 1 rfl) ?_
    refine j_ldc hC (pc := 12) (z := 1000000) q630 dX0_wish_12 rfl ?_
    refine j_calli (rest := []) hX (va_runS hC.fix (f0_in D T N l hi lo 1000000 (by omega) _ _) (va_cwS 3 hC.ts (lw_S q215 q216 q40 q217) rfl rfl rfl (by decide +kernel) ⟨Nat.le_of_ble_eq_true rfl, Nat.le_of_ble_eq_true rfl⟩) (j_preS hC hX _) rfl rfl hl.1 rfl (Nat.le_of_ble_eq_true rfl) dX0_wish_14 ⟨(by first | exact Nat.le_of_ble_eq_true rfl | (show _ ≤ (774 : Nat); omega) | (show _ ≤ (5762 : Nat); omega)), (by first | exact Nat.le_of_ble_eq_true rfl | (show _ ≤ (774 : Nat); omega) | (show _ ≤ (5762 : Nat); omega))⟩) (fun r4 g m5 H locs hp hle hX => ?_)
    obtain ⟨hn_, hg_, hp⟩ := hp
    rw [hn_, hg_] at hX
    have hq_r4 := inF_of hp
    refine j_if_ne hC (pc := 17) 23 dX0_wish_17 (by decide) (by omega) (fun c6 => ?_) (fun c6 => ?_)
    · skip
      refine lv_aload_n hx hb (pc := 23) dX0_wish_23 rfl (lv_at hl 0 rfl) ?_
      refine L_getr hC hX hL in_X0 (ci := 0) rfl (pc := 24) 0 hx0.T.2.2.1 2 (by decide) q150 rfl (q := zA S 0 2) (b := zB S 2) hx0.r2 rfl dX0_wish_24 ?_
      refine j_iconst hC (pc := 27) dX0_wish_27 ?_
      refine L_aald hC hX hL (pc := 28) 2 5 (hx0.sp.k 2 rfl) (by decide) rfl rfl (L := 2) (hx0.sp.n 2 rfl) (by decide) (by omega) (b := zB S 3) (show _ from hx0.e.1.1) dX0_wish_28 ?_
      refine j_iconst hC (pc := 29) dX0_wish_29 ?_
      refine L_iald hC hX hL (pc := 30) 3 (hx0.sp.k 3 rfl) (L := 3) (hx0.sp.n 3 rfl) (by decide) (by omega) (z := Z 3 0) rfl dX0_wish_30 ?_
      refine j_eqi (b := V 2 0) hs0_.1 ?_
      refine j_iconst hC (pc := 31) dX0_wish_31 ?_
      refine j_icmp_ne hC (pc := 32) 38 dX0_wish_32 (by decide) (by omega) (fun c7 => ?_) (fun c7 => ?_)
      · skip
        have J45 : ∀ (g : GH) (nj45 : Nat) (S2 : LbS) (Z2 : Nat → Int → Int), (xRel N x S2 Z2 (va_up F 31 0) V) → (∀ k, 222 ≤ k → sk S Z S2 Z2 k) → ∀ (H : Heap) (locs : List Loc), Wd D (gA g0 n) s g nj45 H locs → lR T g S2 Z2 → ∀ (ls : Array Slot), lv_has ls 6 [(0, .ref (zB S2 0)), (1, .int (iI (lo))), (2, .int (iI (hi)))] → W p l e ({ frames := 9, cells := 774, slots := 5762, locals := 215 } : Room) s mi args below meth c H locs 0 0 Q (F0 mi 45 ls []) := by
          intro g nj45 S2 Z2 hx2 hskR H locs hX hL ls hl
          refine j_bipush hC (pc := 45) dX0_wish_45 (by decide) ?_
          refine lv_aload_n hx hb (pc := 47) dX0_wish_47 rfl (lv_at hl 0 rfl) ?_
          refine L_get hC hX hL in_X0 (ci := 0) rfl (pc := 48) 0 hx2.T.2.2.1 1 (by decide) q149 rfl (v := .int (iI (Z2 0 1))) rfl dX0_wish_48 ?_
          refine j_eqi (b := F 0) hx2.n.1 ?_
          refine j_mmin hC (pc := 51) q631 hl.1 (Nat.le_of_ble_eq_true rfl) (Nat.le_of_ble_eq_true rfl) (by first | exact Nat.le_of_ble_eq_true rfl | (show _ ≤ (774 : Nat); omega) | (show _ ≤ (5762 : Nat); omega)) (by first | exact Nat.le_of_ble_eq_true rfl | (show _ ≤ (774 : Nat); omega) | (show _ ≤ (5762 : Nat); omega)) (by omega) dX0_wish_51 ?_
          refine j_eqi (b := wN F) rfl ?_
          have hxR0 : xRel N x S2 Z2 (va_up F 31 (wOut F V lo hi (0 : Int).toNat).2) (va_up V 19 (wOut F V lo hi (0 : Int).toNat).1) := by show xRel N x S2 Z2 (va_up F 31 0) (va_up V 19 (V 19)); rw [va_upid]; exact hx2
          refine lv_istore_n (lv' := [(3, .int (iI (wN F))), (0, .ref (zB S2 0)), (1, .int (iI (lo))), (2, .int (iI (hi)))]) hx hb (pc := 54) dX0_wish_54 rfl hl (by decide) rfl (fun ls hl => ?_)
          refine j_iconst hC (pc := 55) dX0_wish_55 ?_
          refine lv_istore (lv' := [(4, .int (iI (0))), (3, .int (iI (wN F))), (0, .ref (zB S2 0)), (1, .int (iI (lo))), (2, .int (iI (hi)))]) hx hb (pc := 56) dX0_wish_56 hl (by decide) rfl (fun ls hl => ?_)
          have L58 : ∀ (fu : Nat) (i : Int) (g : GH) (nj58 : Nat) (S2 : LbS) (Z2 : Nat → Int → Int), wN F - i < (fu : Int) → (0 ≤ i ∧ i ≤ wN F) → (xRel N x S2 Z2 (va_up F 31 (wOut F V lo hi i.toNat).2) (va_up V 19 (wOut F V lo hi i.toNat).1)) → (∀ k, 222 ≤ k → sk S Z S2 Z2 k) → ∀ (H : Heap) (locs : List Loc), Wd D (gA g0 n) s g nj58 H locs → lR T g S2 Z2 → ∀ (ls : Array Slot), lv_has ls 6 [(4, .int (iI (i))), (3, .int (iI (wN F))), (0, .ref (zB S2 0)), (1, .int (iI (lo))), (2, .int (iI (hi)))] → W p l e ({ frames := 9, cells := 774, slots := 5762, locals := 215 } : Room) s mi args below meth c H locs (126 * i.toNat) (938 * i.toNat) Q (F0 mi 58 ls []) := by
            intro fu
            induction fu with
            | zero =>
              intro i g nj58 S2 Z2 hfu hi2 hx2 hsk2 H locs hX hL ls hl
              exfalso
              omega
            | succ fu ih58 =>
              intro i g nj58 S2 Z2 hfu hi2 hx2 hsk2 H locs hX hL ls hl
              refine lv_iload hx hb (pc := 58) dX0_wish_58 (lv_at hl 0 rfl) ?_
              refine lv_iload_n hx hb (pc := 60) dX0_wish_60 rfl (lv_at hl 1 rfl) ?_
              refine j_icmp_ge hC (pc := 61) 105 dX0_wish_61 (by decide) (by omega) (fun c8 => ?_) (fun c8 => ?_)
              · skip
                refine lv_aload_n hx hb (pc := 105) dX0_wish_105 rfl (lv_at hl 2 rfl) ?_
                refine L_getr hC hX hL in_X0 (ci := 0) rfl (pc := 106) 0 hx2.T.2.2.1 13 (by decide) q166 rfl (q := zA S2 0 13) (b := zB S2 14) hx2.r13 rfl dX0_wish_106 ?_
                refine j_calli (rest := []) hX (va_runV hC.fix (l_size14 D T N l hL _ (hx2.sp.k 14 rfl)) (cwV 0 hC.ts (lw_V q520 q521 q522 q44 q523) rfl rfl rfl (by decide +kernel) ⟨Nat.le_of_ble_eq_true rfl, Nat.le_of_ble_eq_true rfl⟩) (j_preV hC hX (hL.ob 14 (hx2.sp.k 14 rfl)) (ci := 7) (r := (RJ2, TJ2, 3)) rfl _) rfl rfl hl.1 rfl (Nat.le_of_ble_eq_true rfl) dX0_wish_109 ⟨(by first | exact Nat.le_of_ble_eq_true rfl | (show _ ≤ (774 : Nat); omega) | (show _ ≤ (5762 : Nat); omega)), (by first | exact Nat.le_of_ble_eq_true rfl | (show _ ≤ (774 : Nat); omega) | (show _ ≤ (5762 : Nat); omega))⟩) (fun r9 g m10 H locs hp hle hX => ?_)
                obtain ⟨hn_, Z_, hL, hS_, hp⟩ := hp
                rw [hn_] at hX
                rw [hS_] at hL
                have hz_ : r9 = (wOut F V lo hi i.toNat).2 := hp.trans hx2.bd.1
                subst hQ
                exact j_iret hC (pc := 112) hX hr hlk (by first | exact Nat.le_of_ble_eq_true rfl | (show _ ≤ (774 : Nat); omega) | (show _ ≤ (5762 : Nat); omega)) (by first | exact Nat.le_of_ble_eq_true rfl | (show _ ≤ (774 : Nat); omega) | (show _ ≤ (5762 : Nat); omega)) dX0_wish_112 ⟨_, _, hL, ⟨by show _ = (op_wish F V lo hi).1; unfold op_wish; rw [if_pos (by omega), if_neg (by omega), show (wN F).toNat = i.toNat by omega]; exact hz_, hsk2, by show xRel N x S2 Z2 (op_wish F V lo hi).2.1 (op_wish F V lo hi).2.2; unfold op_wish; rw [if_pos (by omega), if_neg (by omega), show (wN F).toNat = i.toNat by omega]; exact hx2⟩⟩
              · skip
                have hbk := bdOk.out (lo := lo) (hi := hi) (V := V) (F := F) (by omega) i.toNat (by omega)
                have hb1 := hbk.1
                have hmx := wMx_le (a := i) (b := i - 1) (by omega) (by omega)
                refine lv_aload_n hx hb (pc := 64) dX0_wish_64 rfl (lv_at hl 2 rfl) ?_
                refine lv_iload hx hb (pc := 65) dX0_wish_65 (lv_at hl 0 rfl) ?_
                refine j_iconst hC (pc := 67) dX0_wish_67 ?_
                refine lv_iload_n hx hb (pc := 68) dX0_wish_68 rfl (lv_at hl 3 rfl) ?_
                refine lv_iload_n hx hb (pc := 69) dX0_wish_69 rfl (lv_at hl 4 rfl) ?_
                refine j_callv (rest := []) hX (va_runV hC.fix (f0_tries D T N l hL _ _ _ _ i (-1) lo hi hx2 (SI_bd hI (ch.rf.up 31 _ (by decide)) (ch.rf.up 19 _ (by decide)) (by show 0 ≤ (wOut F V lo hi i.toNat).2 ∧ (wOut F V lo hi i.toNat).2 ≤ 27; omega) (fun k q1 q2 => hbk.2 k q1 q2)) (by show 0 ≤ i ∧ i < F 0; omega) (by omega) (Or.inl rfl) (by omega) (by omega) (by show 0 ≤ (wOut F V lo hi i.toNat).2 ∧ (wOut F V lo hi i.toNat).2 < 27; omega)) (cwV 4 hC.ts (lw_V q632 q634 qs12 q40 q635) rfl rfl rfl (by decide +kernel) ⟨Nat.le_of_ble_eq_true rfl, Nat.le_of_ble_eq_true rfl⟩) (j_preV hC hX (hL.ob 0 hx2.T.2.2.1) (ci := 0) (r := (RX0, TX0, 18)) rfl _) rfl rfl hl.1 rfl (Nat.le_of_ble_eq_true rfl) dX0_wish_70 ⟨(by first | exact Nat.le_of_ble_eq_true rfl | (show _ ≤ (774 : Nat); omega) | (show _ ≤ (5762 : Nat); omega)), (by first | exact Nat.le_of_ble_eq_true rfl | (show _ ≤ (774 : Nat); omega) | (show _ ≤ (5762 : Nat); omega))⟩) (fun g m13 H locs hp hle hX => ?_)
                obtain ⟨S3, Z3, hL, hp⟩ := hp
                obtain ⟨hsT, hxT⟩ := hp
                have g0_ : zB S3 0 = zB S2 0 := hxT.b0.trans hx2.b0.symm
                rw [← g0_] at hl
                have hsk3 : ∀ k, 222 ≤ k → sk S Z S3 Z3 k := fun k hk => (hsk2 k hk).tr (hsT k hk)
                refine lv_iload hx hb (pc := 73) dX0_wish_73 (lv_at hl 0 rfl) ?_
                refine lv_istore (lv' := [(5, .int (iI (i))), (4, .int (iI (i))), (3, .int (iI (wN F))), (0, .ref (zB S3 0)), (1, .int (iI (lo))), (2, .int (iI (hi)))]) hx hb (pc := 75) dX0_wish_75 hl (by decide) rfl (fun ls hl => ?_)
                have L77 : ∀ (fu : Nat) (j : Int) (g : GH) (nj77 : Nat) (S4 : LbS) (Z4 : Nat → Int → Int), wN F - j < (fu : Int) → (i ≤ j ∧ j ≤ wN F) → (xRel N x S4 Z4 (va_up F 31 (wIn F V lo hi i (wOut F V lo hi i.toNat) (j - i + 1).toNat).2) (va_up V 19 (wIn F V lo hi i (wOut F V lo hi i.toNat) (j - i + 1).toNat).1)) → (∀ k, 222 ≤ k → sk S Z S4 Z4 k) → ∀ (H : Heap) (locs : List Loc), Wd D (gA g0 n) s g nj77 H locs → lR T g S4 Z4 → ∀ (ls : Array Slot), lv_has ls 6 [(5, .int (iI (j))), (4, .int (iI (i))), (3, .int (iI (wN F))), (0, .ref (zB S4 0)), (1, .int (iI (lo))), (2, .int (iI (hi)))] → W p l e ({ frames := 9, cells := 774, slots := 5762, locals := 215 } : Room) s mi args below meth c H locs (126 * i.toNat + 18 * (j - i + 1).toNat) (938 * i.toNat + 134 * (j - i + 1).toNat) Q (F0 mi 77 ls []) := by
                  intro fu
                  induction fu with
                  | zero =>
                    intro j g nj77 S4 Z4 hfu hj hx4 hsk4 H locs hX hL ls hl
                    exfalso
                    omega
                  | succ fu ih77 =>
                    intro j g nj77 S4 Z4 hfu hj hx4 hsk4 H locs hX hL ls hl
                    refine lv_iload hx hb (pc := 77) dX0_wish_77 (lv_at hl 0 rfl) ?_
                    refine lv_iload_n hx hb (pc := 79) dX0_wish_79 rfl (lv_at hl 2 rfl) ?_
                    refine j_icmp_ge hC (pc := 80) 99 dX0_wish_80 (by decide) (by omega) (fun c15 => ?_) (fun c15 => ?_)
                    · skip
                      refine j_iinc hC (pc := 99) (lv' := [(4, .int (iI (i + 1))), (5, .int (iI (j))), (3, .int (iI (wN F))), (0, .ref (zB S4 0)), (1, .int (iI (lo))), (2, .int (iI (hi)))]) dX0_wish_99 hl (k := 1) rfl (by decide) rfl (fun ls hl => ?_)
                      refine j_goto hC (pc := 102) 58 dX0_wish_102 (by decide) ?_
                      refine W.widen (show 126 * i.toNat + 18 * (j - i + 1).toNat ≤ 126 * (i + 1 : Int).toNat from (by omega)) (show 938 * i.toNat + 134 * (j - i + 1).toNat ≤ 938 * (i + 1 : Int).toNat from (by omega)) ?_
                      exact ih58 (i + 1) _ _ _ _ (by omega) (by omega) (by rw [show (i + 1).toNat = i.toNat + 1 by omega]; show xRel N x S4 Z4 (va_up F 31 (wIn F V lo hi ((i.toNat : Nat) : Int) (wOut F V lo hi i.toNat) (wN F - ((i.toNat : Nat) : Int) + 1).toNat).2) (va_up V 19 (wIn F V lo hi ((i.toNat : Nat) : Int) (wOut F V lo hi i.toNat) (wN F - ((i.toNat : Nat) : Int) + 1).toNat).1); rw [show (wN F - ((i.toNat : Nat) : Int) + 1).toNat = (j - i + 1).toNat by omega, Int.toNat_of_nonneg hi2.1]; exact hx4) (by exact hsk4) _ _ hX hL ls (lv_sub hl [0, 2, 3, 4, 5] rfl)
                    · skip
                      have hbo := bdOk.out (lo := lo) (hi := hi) (V := V) (F := F) (by omega) i.toNat (by omega)
                      have hbk := bdOk.inn (lo := lo) (hi := hi) (F := F) (V := V) hbo (a := i) (by omega) (j - i + 1).toNat (by omega)
                      have hb1 := hbk.1
                      have hmx := wMx_le (a := i) (b := j) (by omega) (by omega)
                      refine lv_aload_n hx hb (pc := 83) dX0_wish_83 rfl (lv_at hl 3 rfl) ?_
                      refine lv_iload hx hb (pc := 84) dX0_wish_84 (lv_at hl 1 rfl) ?_
                      refine lv_iload hx hb (pc := 86) dX0_wish_86 (lv_at hl 0 rfl) ?_
                      refine lv_iload_n hx hb (pc := 88) dX0_wish_88 rfl (lv_at hl 4 rfl) ?_
                      refine lv_iload_n hx hb (pc := 89) dX0_wish_89 rfl (lv_at hl 5 rfl) ?_
                      refine j_callv (rest := []) hX (va_runV hC.fix (f0_tries D T N l hL _ _ _ _ i j lo hi hx4 (SI_bd hI (ch.rf.up 31 _ (by decide)) (ch.rf.up 19 _ (by decide)) (by show 0 ≤ (wIn F V lo hi i (wOut F V lo hi i.toNat) (j - i + 1).toNat).2 ∧ (wIn F V lo hi i (wOut F V lo hi i.toNat) (j - i + 1).toNat).2 ≤ 27; omega) (fun k q1 q2 => hbk.2 k q1 q2)) (by show 0 ≤ i ∧ i < F 0; omega) (by omega) (Or.inr ⟨hj.1, (by show j < F 0; omega)⟩) (by omega) (by omega) (by show 0 ≤ (wIn F V lo hi i (wOut F V lo hi i.toNat) (j - i + 1).toNat).2 ∧ (wIn F V lo hi i (wOut F V lo hi i.toNat) (j - i + 1).toNat).2 < 27; omega)) (cwV 4 hC.ts (lw_V q632 q634 qs12 q40 q635) rfl rfl rfl (by decide +kernel) ⟨Nat.le_of_ble_eq_true rfl, Nat.le_of_ble_eq_true rfl⟩) (j_preV hC hX (hL.ob 0 hx4.T.2.2.1) (ci := 0) (r := (RX0, TX0, 18)) rfl _) rfl rfl hl.1 rfl (Nat.le_of_ble_eq_true rfl) dX0_wish_90 ⟨(by first | exact Nat.le_of_ble_eq_true rfl | (show _ ≤ (774 : Nat); omega) | (show _ ≤ (5762 : Nat); omega)), (by first | exact Nat.le_of_ble_eq_true rfl | (show _ ≤ (774 : Nat); omega) | (show _ ≤ (5762 : Nat); omega))⟩) (fun g m17 H locs hp hle hX => ?_)
                      obtain ⟨S5, Z5, hL, hp⟩ := hp
                      obtain ⟨hsT, hxT⟩ := hp
                      have g0_ : zB S5 0 = zB S4 0 := hxT.b0.trans hx4.b0.symm
                      rw [← g0_] at hl
                      have hsk5 : ∀ k, 222 ≤ k → sk S Z S5 Z5 k := fun k hk => (hsk4 k hk).tr (hsT k hk)
                      refine j_iinc hC (pc := 93) (lv' := [(5, .int (iI (j + 1))), (4, .int (iI (i))), (3, .int (iI (wN F))), (0, .ref (zB S5 0)), (1, .int (iI (lo))), (2, .int (iI (hi)))]) dX0_wish_93 hl (k := 0) rfl (by decide) rfl (fun ls hl => ?_)
                      refine j_goto hC (pc := 96) 77 dX0_wish_96 (by decide) ?_
                      refine W.widen (show 126 * i.toNat + 18 * (j - i + 1).toNat + 18 ≤ 126 * i.toNat + 18 * ((j + 1 : Int) - i + 1).toNat from (by omega)) (show 938 * i.toNat + 134 * (j - i + 1).toNat + 134 ≤ 938 * i.toNat + 134 * ((j + 1 : Int) - i + 1).toNat from (by omega)) ?_
                      exact ih77 (j + 1) _ _ _ _ (by omega) (by omega) (by rw [show (j + 1 - i + 1).toNat = (j - i + 1).toNat + 1 by omega]; show xRel N x S5 Z5 (va_up F 31 (wStep F V lo hi i (i - 1 + (((j - i + 1).toNat : Nat) : Int)) (wIn F V lo hi i (wOut F V lo hi i.toNat) (j - i + 1).toNat)).2) (va_up V 19 (wStep F V lo hi i (i - 1 + (((j - i + 1).toNat : Nat) : Int)) (wIn F V lo hi i (wOut F V lo hi i.toNat) (j - i + 1).toNat)).1); rw [show (i - 1 + (((j - i + 1).toNat : Nat) : Int)) = j by omega]; have q_ := hxT; rw [wStep_cg] at q_; exact q_) (by exact hsk5) _ _ hX hL ls (lv_sub hl [0, 1, 2, 3, 4, 5] rfl)
                refine W.widen (show 126 * i.toNat + 18 ≤ 126 * i.toNat + 18 * ((i : Int) - i + 1).toNat from (by omega)) (show 938 * i.toNat + 134 ≤ 938 * i.toNat + 134 * ((i : Int) - i + 1).toNat from (by omega)) ?_
                exact L77 ((wN F - i : Int).toNat + 1) i _ _ _ _ (by omega) (by omega) (by rw [show (i - i + 1).toNat = 0 + 1 by omega]; show xRel N x S3 Z3 (va_up F 31 (wStep F V lo hi i (i - 1 + ((0 : Nat) : Int)) (wOut F V lo hi i.toNat)).2) (va_up V 19 (wStep F V lo hi i (i - 1 + ((0 : Nat) : Int)) (wOut F V lo hi i.toNat)).1); rw [show (i - 1 + ((0 : Nat) : Int)) = i - 1 by omega, ← wStep_b (b := -1) (by omega) (by omega)]; have q_ := hxT; rw [wStep_cg] at q_; exact q_) (by exact hsk3) _ _ hX hL ls (lv_sub hl [0, 1, 2, 3, 4, 5] rfl)
          refine W.widen (show 0 ≤ 126 * (0 : Int).toNat from (by omega)) (show 0 ≤ 938 * (0 : Int).toNat from (by omega)) ?_
          exact L58 ((wN F - 0 : Int).toNat + 1) 0 _ _ _ _ (by omega) (by omega) (by exact hxR0) (by exact hskR) _ _ hX hL ls (lv_sub hl [0, 1, 2, 3, 4] rfl)
        refine lv_aload_n hx hb (pc := 38) dX0_wish_38 rfl (lv_at hl 0 rfl) ?_
        refine L_getr hC hX hL in_X0 (ci := 0) rfl (pc := 39) 0 hx0.T.2.2.1 13 (by decide) q166 rfl (q := zA S 0 13) (b := zB S 14) hx0.r13 rfl dX0_wish_39 ?_
        rcases hx0.bd.2.1 with ⟨hE0, hem⟩ | ⟨hN1, hN2, hN3, hN4⟩
        · skip
          refine j_callv (rest := []) hX (va_runV hC.fix (l_clearE14 D T N l hL _ (hx0.sp.k 14 rfl) hem (hx0.bd.1.trans hE0)) (cwV 0 hC.ts (lw_V q585 q586 q587 q44 q588) rfl rfl rfl (by decide +kernel) ⟨Nat.le_of_ble_eq_true rfl, Nat.le_of_ble_eq_true rfl⟩) (j_preV hC hX (hL.ob 14 (hx0.sp.k 14 rfl)) (ci := 7) (r := (RJ2, TJ2, 3)) rfl _) rfl rfl hl.1 rfl (Nat.le_of_ble_eq_true rfl) dX0_wish_42 ⟨(by first | exact Nat.le_of_ble_eq_true rfl | (show _ ≤ (774 : Nat); omega) | (show _ ≤ (5762 : Nat); omega)), (by first | exact Nat.le_of_ble_eq_true rfl | (show _ ≤ (774 : Nat); omega) | (show _ ≤ (5762 : Nat); omega))⟩) (fun g m20 H locs hp hle hX => ?_)
          obtain ⟨hn_, Z3, hL, hp⟩ := hp
          rw [hn_] at hX
          exact J45  _ _ _ _ (by exact hx0.rstB hI (fun k q1 q2 q3 => sk.c hp.1 (by simp; omega)) ⟨rfl, rfl, rfl⟩ hp.2 (Or.inl hem)) (by exact (fun k hk => sk.c hp.1 (by simp; omega))) _ _ hX hL ls (lv_sub hl [0, 1, 2] rfl)
        · skip
          refine j_callv (rest := []) hX (va_runV hC.fix (l_clearN14 D T N l hL _ (zN S 25) (hx0.sp.k 14 rfl) hN1 ⟨hN2, rfl⟩ (by omega) (by rw [hx0.bd.1]; omega)) (cwV 0 hC.ts (lw_V q585 q586 q587 q44 q588) rfl rfl rfl (by decide +kernel) ⟨Nat.le_of_ble_eq_true rfl, Nat.le_of_ble_eq_true rfl⟩) (j_preV hC hX (hL.ob 14 (hx0.sp.k 14 rfl)) (ci := 7) (r := (RJ2, TJ2, 3)) rfl _) rfl rfl hl.1 rfl (Nat.le_of_ble_eq_true rfl) dX0_wish_42 ⟨(by first | exact Nat.le_of_ble_eq_true rfl | (show _ ≤ (774 : Nat); omega) | (show _ ≤ (5762 : Nat); omega)), (by first | exact Nat.le_of_ble_eq_true rfl | (show _ ≤ (774 : Nat); omega) | (show _ ≤ (5762 : Nat); omega))⟩) (fun g m23 H locs hp hle hX => ?_)
          obtain ⟨S3, Z3, hL, hp⟩ := hp
          have g0_ : zB S3 0 = zB S 0 := congrFun hp.1.1 0
          rw [← g0_] at hl
          exact J45  _ _ _ _ (by exact hx0.rstB hI (fun k q1 q2 q3 => ⟨congrFun hp.1.1 k, congrFun hp.1.2.1 k, congrFun hp.1.2.2 k, hp.2.1 k (by omega), hp.2.2.1 k (by simp; omega)⟩) ⟨congrFun hp.1.1 14, congrFun hp.1.2.1 14, congrFun hp.1.2.2 14⟩ hp.2.2.2 (Or.inr (by rw [hp.2.1 14 (by decide), hp.1.1, hp.1.2.1, hp.1.2.2]; exact ⟨hN1, hN2, hN3⟩))) (by exact (fun k hk => ⟨congrFun hp.1.1 k, congrFun hp.1.2.1 k, congrFun hp.1.2.2 k, hp.2.1 k (by omega), hp.2.2.1 k (by simp; omega)⟩)) _ _ hX hL ls (lv_sub hl [0, 1, 2] rfl)
      · skip
        refine j_bipush hC (pc := 35) dX0_wish_35 (by decide) ?_
        subst hQ
        exact j_iret hC (pc := 37) hX hr hlk (by first | exact Nat.le_of_ble_eq_true rfl | (show _ ≤ (774 : Nat); omega) | (show _ ≤ (5762 : Nat); omega)) (by first | exact Nat.le_of_ble_eq_true rfl | (show _ ≤ (774 : Nat); omega) | (show _ ≤ (5762 : Nat); omega)) dX0_wish_37 ⟨_, _, hL, ⟨by show _ = (op_wish F V lo hi).1; unfold op_wish; rw [if_pos (by omega), if_pos (by omega)], (fun k hk => sk.rf), by show xRel N x S Z (op_wish F V lo hi).2.1 (op_wish F V lo hi).2.2; unfold op_wish; rw [if_pos (by omega), if_pos (by omega)]; exact hx0⟩⟩
    · skip
      refine j_bipush hC (pc := 20) dX0_wish_20 (by decide) ?_
      subst hQ
      exact j_iret hC (pc := 22) hX hr hlk (by first | exact Nat.le_of_ble_eq_true rfl | (show _ ≤ (774 : Nat); omega) | (show _ ≤ (5762 : Nat); omega)) (by first | exact Nat.le_of_ble_eq_true rfl | (show _ ≤ (774 : Nat); omega) | (show _ ≤ (5762 : Nat); omega)) dX0_wish_22 ⟨_, _, hL, ⟨by show _ = (op_wish F V lo hi).1; unfold op_wish; rw [if_neg (by omega)], (fun k hk => sk.rf), by show xRel N x S Z (op_wish F V lo hi).2.1 (op_wish F V lo hi).2.2; unfold op_wish; rw [if_neg (by omega)]; exact hx0⟩⟩
