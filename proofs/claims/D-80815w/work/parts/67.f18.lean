/-! FairFight: the odds of a fight to come -/
theorem SI.rO {F : Nat → Int} {V : Nat → Int → Int} (h : SI F V) {i : Int} (hi : 0 ≤ i ∧ i < F 25) : rwOk F (whO V i) := by
  refine ⟨h.2.2.1.1, ?_⟩
  show rowA (V 17 (3 * i + (3 - 3))) (V 17 (3 * i + (4 - 3))) (V 17 (3 * i + (5 - 3))) (F 0)
  rw [show 3 * i + (3 - 3 : Int) = 3 * i by omega, show 3 * i + (4 - 3 : Int) = 3 * i + 1 by omega, show 3 * i + (5 - 3 : Int) = 3 * i + 2 by omega]
  exact (h.2.2.2.1 i hi.1 hi.2).1
section RO
variable {N : Nat → Nat} {x : Nat} {S : LbS} {Z : Nat → Int → Int} {F : Nat → Int} {V : Nat → Int → Int}
theorem xRel.el (h : xRel N x S Z F V) {i : Int} (hi : 0 ≤ i ∧ i < F 25) : (zA S 13 1 = some (zB S 24) ∧ zK S 24 = 10 ∧ zN S 24 = 10) ∧ zA S 24 i = some (zB S (64 + i.toNat)) ∧ zK S (64 + i.toNat) = 1 := by
  refine ⟨?_, (h.fg.2.2 i hi.1 hi.2).1, (h.fg.2.2 i hi.1 hi.2).2.1.1⟩
  rcases h.fg.2.1 with ⟨q, -⟩ | q
  · omega
  · exact q
theorem xRel.rwO (h : xRel N x S Z F V) (hI : SI F V) {i : Int} (hi : 0 ≤ i ∧ i < F 25) : rwA S Z 3 (whO V i) ∧ rwA S Z (64 + i.toNat) (fun q => whO V i (3 + q)) := by
  have hn := hI.nums
  obtain ⟨g1, g2, g3⟩ := h.fg.2.2 i hi.1 hi.2
  refine ⟨⟨by decide, h.sp.k 3 rfl, h.sp.n 3 rfl, fun q a b => ?_⟩, ⟨by omega, g2.1, g2.2, fun q a b => ?_⟩⟩
  · unfold whO
    rw [if_neg (by omega)]
    exact (h.si q a b).1
  · show Z (64 + i.toNat) q = whO V i (3 + q)
    unfold whO
    rw [if_pos (by omega), show 3 + q - 3 = q by omega]
    exact g3 q a b
end RO

set_option maxHeartbeats 4000000 in
set_option maxRecDepth 100000 in
theorem f0_odds (D : va_G) (T N : Nat → Nat) (l : Launch) {g0 : GH} {S : LbS} {Z : Nat → Int → Int} (hL : lR T g0 S Z) (n : Nat) (x : Nat) (F : Nat → Int) (V : Nat → Int → Int) (i b : Int) (hx0 : xRel N x S Z F V) (hI : SI F V) (hg : (-2147483648 ≤ i ∧ i ≤ 2147483647) ∧ (-2147483648 ≤ b ∧ b ≤ 2147483647)) : Met l yX0_odds (ws_ yX0_odds cX0_odds 3 (some .int)) ({ frames := 8, cells := 15, slots := 97, locals := 189 } : Room) (gPc D T N [.ref (zB S 0), .int (iI (i)), .int (iI (b))] g0 n) (gQi D g0 n (fun r g' n' => ∃ S' Z', lR T g' S' Z' ∧ xP N x S Z (op_odds F V i b) r S' Z')) 15 97 (gA g0 n) := by
  refine j_start (by decide) (Nat.le_of_ble_eq_true rfl) ?_
  intro p e s mi args below meth c hC hr hlk hnm hX ls hl
  have hC : Ct D T N (gA g0 n) p s mi args c cX0_odds RX0 3 := hC
  have hx := hC.x
  have hb := hC.b
  generalize hQ : MQ below _ args s 15 97 (gA g0 n) = Q
  have hl : lv_has ls 3 [(0, .ref (zB S 0)), (1, .int (iI (i))), (2, .int (iI (b)))] := hl
  have hnn := hI.nums
  have hxn := hx0.n
  refine lv_iload_n hx hb (pc := 0) dX0_odds_0 rfl (lv_at hl 1 rfl) ?_
  refine j_iconst hC (pc := 1) dX0_odds_1 ?_
  refine lv_aload_n hx hb (pc := 2) dX0_odds_2 rfl (lv_at hl 0 rfl) ?_
  refine L_getr hC hX hL in_X0 (ci := 0) rfl (pc := 3) 0 hx0.T.2.2.1 8 (by decide) q161 rfl (q := zA S 0 8) (b := zB S 13) hx0.r8 rfl dX0_odds_3 ?_
  refine j_calli (rest := [.int (iI (0)), .int (iI (i))]) hX (va_runV hC.fix (l_size13 D T N l hL _ (hx0.sp.k 13 rfl)) (cwV 0 hC.ts (lw_V q520 q521 q522 q44 q523) rfl rfl rfl (by decide +kernel) ⟨Nat.le_of_ble_eq_true rfl, Nat.le_of_ble_eq_true rfl⟩) (j_preV hC hX (hL.ob 13 (hx0.sp.k 13 rfl)) (ci := 7) (r := (RJ2, TJ2, 3)) rfl _) rfl rfl hl.1 rfl (Nat.le_of_ble_eq_true rfl) dX0_odds_6 ⟨(Nat.le_of_ble_eq_true rfl), (Nat.le_of_ble_eq_true rfl)⟩) (fun r1 g m2 H locs hp hle hX => ?_)
  obtain ⟨hn_, Z_, hL, hS_, hp⟩ := hp
  rw [hn_] at hX
  rw [hS_] at hL
  have hz_r1 : r1 = F 25 := hp.trans hx0.fg.1
  refine j_iconst hC (pc := 9) dX0_odds_9 ?_
  refine j_isub hC (pc := 10) dX0_odds_10 ?_
  refine j_calli (rest := []) hX (va_runS hC.fix (f0_in D T N l i 0 (r1 - 1) (by omega) _ _) (va_cwS 3 hC.ts (lw_S q215 q216 q40 q217) rfl rfl rfl (by decide +kernel) ⟨Nat.le_of_ble_eq_true rfl, Nat.le_of_ble_eq_true rfl⟩) (j_preS hC hX _) rfl rfl hl.1 rfl (Nat.le_of_ble_eq_true rfl) dX0_odds_11 ⟨(Nat.le_of_ble_eq_true rfl), (Nat.le_of_ble_eq_true rfl)⟩) (fun r4 g m5 H locs hp hle hX => ?_)
  obtain ⟨hn_, hg_, hp⟩ := hp
  rw [hn_, hg_] at hX
  have hq_r4 := inF_of hp
  refine j_if_eq hC (pc := 14) 26 dX0_odds_14 (by decide) (by omega) (fun c6 => ?_) (fun c6 => ?_)
  · skip
    refine j_bipush hC (pc := 26) dX0_odds_26 (by decide) ?_
    subst hQ
    exact j_iret hC (pc := 28) hX hr hlk (Nat.le_of_ble_eq_true rfl) (Nat.le_of_ble_eq_true rfl) dX0_odds_28 ⟨_, _, hL, ⟨by show _ = (op_odds F V i b).1; unfold op_odds; rw [if_neg (by omega)], (fun k hk => sk.rf), by show xRel N x S Z (op_odds F V i b).2.1 (op_odds F V i b).2.2; unfold op_odds; exact hx0⟩⟩
  · skip
    refine lv_iload_n hx hb (pc := 17) dX0_odds_17 rfl (lv_at hl 2 rfl) ?_
    refine j_iconst hC (pc := 18) dX0_odds_18 ?_
    refine j_iconst hC (pc := 19) dX0_odds_19 ?_
    refine j_calli (rest := []) hX (va_runS hC.fix (f0_in D T N l b 0 1 (by omega) _ _) (va_cwS 3 hC.ts (lw_S q215 q216 q40 q217) rfl rfl rfl (by decide +kernel) ⟨Nat.le_of_ble_eq_true rfl, Nat.le_of_ble_eq_true rfl⟩) (j_preS hC hX _) rfl rfl hl.1 rfl (Nat.le_of_ble_eq_true rfl) dX0_odds_20 ⟨(Nat.le_of_ble_eq_true rfl), (Nat.le_of_ble_eq_true rfl)⟩) (fun r7 g m8 H locs hp hle hX => ?_)
    obtain ⟨hn_, hg_, hp⟩ := hp
    rw [hn_, hg_] at hX
    have hq_r7 := inF_of hp
    refine j_if_ne hC (pc := 23) 29 dX0_odds_23 (by decide) (by omega) (fun c9 => ?_) (fun c9 => ?_)
    · skip
      have hi2_ : 0 ≤ i ∧ i < F 25 := by omega
      have hel := hx0.el hi2_
      have hro_ := hx0.rwO hI hi2_
      have h2_ := hI.w2 0 (by decide) (by decide)
      have h3_ := hx0.si 0 (by decide) (by decide)
      refine lv_aload_n hx hb (pc := 29) dX0_odds_29 rfl (lv_at hl 0 rfl) ?_
      refine L_getr hC hX hL in_X0 (ci := 0) rfl (pc := 30) 0 hx0.T.2.2.1 2 (by decide) q150 rfl (q := zA S 0 2) (b := zB S 2) hx0.r2 rfl dX0_odds_30 ?_
      refine j_iconst hC (pc := 33) dX0_odds_33 ?_
      refine L_aald hC hX hL (pc := 34) 2 5 (hx0.sp.k 2 rfl) (by decide) rfl rfl (L := 2) (hx0.sp.n 2 rfl) (by decide) (by omega) (b := zB S 3) (show _ from hx0.e.1.1) dX0_odds_34 ?_
      refine j_iconst hC (pc := 35) dX0_odds_35 ?_
      refine L_iald hC hX hL (pc := 36) 3 (hx0.sp.k 3 rfl) (L := 3) (hx0.sp.n 3 rfl) (by decide) (by omega) (z := Z 3 0) rfl dX0_odds_36 ?_
      refine j_iconst hC (pc := 37) dX0_odds_37 ?_
      refine j_icmp_ne hC (pc := 38) 46 dX0_odds_38 (by decide) (by omega) (fun c10 => ?_) (fun c10 => ?_)
      · skip
        refine lv_aload_n hx hb (pc := 46) dX0_odds_46 rfl (lv_at hl 0 rfl) ?_
        refine lv_aload_n hx hb (pc := 47) dX0_odds_47 rfl (lv_at hl 0 rfl) ?_
        refine L_getr hC hX hL in_X0 (ci := 0) rfl (pc := 48) 0 hx0.T.2.2.1 2 (by decide) q150 rfl (q := zA S 0 2) (b := zB S 2) hx0.r2 rfl dX0_odds_48 ?_
        refine j_iconst hC (pc := 51) dX0_odds_51 ?_
        refine L_aald hC hX hL (pc := 52) 2 5 (hx0.sp.k 2 rfl) (by decide) rfl rfl (L := 2) (hx0.sp.n 2 rfl) (by decide) (by omega) (b := zB S 3) (show _ from hx0.e.1.1) dX0_odds_52 ?_
        refine lv_aload_n hx hb (pc := 53) dX0_odds_53 rfl (lv_at hl 0 rfl) ?_
        refine L_getr hC hX hL in_X0 (ci := 0) rfl (pc := 54) 0 hx0.T.2.2.1 8 (by decide) q161 rfl (q := zA S 0 8) (b := zB S 13) hx0.r8 rfl dX0_odds_54 ?_
        refine lv_iload_n hx hb (pc := 57) dX0_odds_57 rfl (lv_at hl 1 rfl) ?_
        refine j_callq (rest := [.ref (zB S 3), .ref (zB S 0)]) hX (va_runV hC.fix (l_get13 D T N l hL _ 10 i _ (hx0.sp.k 13 rfl) hel.1.1 hel.1.2 (by decide) (by rw [hx0.fg.1]; omega) hel.2.1) (cwV 1 hC.ts (lw_V q601 q602 q603 q44 q604) rfl rfl rfl (by decide +kernel) ⟨Nat.le_of_ble_eq_true rfl, Nat.le_of_ble_eq_true rfl⟩) (j_preV hC hX (hL.ob 13 (hx0.sp.k 13 rfl)) (ci := 7) (r := (RJ2, TJ2, 3)) rfl _) rfl rfl hl.1 rfl (Nat.le_of_ble_eq_true rfl) dX0_odds_58 ⟨(Nat.le_of_ble_eq_true rfl), (Nat.le_of_ble_eq_true rfl)⟩) (fun r11 g m12 H locs hp hle hX => ?_)
        obtain ⟨hn_, Z13, hL, hp⟩ := hp
        rw [hn_] at hX
        obtain ⟨hz_, hr_⟩ := hp
        rw [hz_] at hL
        rw [hr_]
        refine j_cast hC (pc := 61) q78 (hasC_ai hC hX (hL.ai (64 + i.toNat) (t := 0) hel.2.2 (by decide) rfl) (nm_I hC)) dX0_odds_61 ?_
        refine lv_iload_n hx hb (pc := 64) dX0_odds_64 rfl (lv_at hl 2 rfl) ?_
        refine j_iconst hC (pc := 65) dX0_odds_65 ?_
        refine j_icmp_ne hC (pc := 66) 76 dX0_odds_66 (by decide) (by omega) (fun c14 => ?_) (fun c14 => ?_)
        · skip
          refine j_iconst hC (pc := 76) dX0_odds_76 ?_
          refine j_calli (rest := []) hX (va_runV hC.fix (f0_chanceOf D T N l hL _ _ _ _ 3 (64 + i.toNat) (whO V i) _ hx0 hI (hI.rO hi2_) (by omega) hro_.1 hro_.2) (cwV 3 hC.ts (lw_V q477 q479 qs7 q40 q480) rfl rfl rfl (by decide +kernel) ⟨Nat.le_of_ble_eq_true rfl, Nat.le_of_ble_eq_true rfl⟩) (j_preV hC hX (hL.ob 0 hx0.T.2.2.1) (ci := 0) (r := (RX0, TX0, 18)) rfl _) rfl rfl hl.1 rfl (Nat.le_of_ble_eq_true rfl) dX0_odds_77 ⟨(Nat.le_of_ble_eq_true rfl), (Nat.le_of_ble_eq_true rfl)⟩) (fun r15 g m16 H locs hp hle hX => ?_)
          obtain ⟨S3, Z3, hL, hp⟩ := hp
          obtain ⟨hr_, hkk⟩ := hp
          have hx3 := hx0.xk hI hkk
          have f0_ : zB S3 0 = zB S 0 := hkk.2.1.1
          rw [← f0_] at hl
          subst hQ
          exact j_iret hC (pc := 80) hX hr hlk (Nat.le_of_ble_eq_true rfl) (Nat.le_of_ble_eq_true rfl) dX0_odds_80 ⟨_, _, hL, ⟨by show _ = (op_odds F V i b).1; unfold op_odds; rw [if_pos (by omega), if_neg (by omega), hr_]; unfold oddO; rw [if_pos (by omega)], (fun k hk => hkk.1 k (Or.inr hk) (by simp; omega)), hx3⟩⟩
        · skip
          refine lv_aload_n hx hb (pc := 69) dX0_odds_69 rfl (lv_at hl 0 rfl) ?_
          refine L_get hC hX hL in_X0 (ci := 0) rfl (pc := 70) 0 hx0.T.2.2.1 10 (by decide) q163 rfl (v := .int (iI (Z 0 10))) rfl dX0_odds_70 ?_
          refine j_eqi (b := F 28) hxn.2.2.2.2.2.1 ?_
          refine j_goto hC (pc := 73) 77 dX0_odds_73 (by decide) ?_
          refine j_calli (rest := []) hX (va_runV hC.fix (f0_chanceOf D T N l hL _ _ _ _ 3 (64 + i.toNat) (whO V i) _ hx0 hI (hI.rO hi2_) (by omega) hro_.1 hro_.2) (cwV 3 hC.ts (lw_V q477 q479 qs7 q40 q480) rfl rfl rfl (by decide +kernel) ⟨Nat.le_of_ble_eq_true rfl, Nat.le_of_ble_eq_true rfl⟩) (j_preV hC hX (hL.ob 0 hx0.T.2.2.1) (ci := 0) (r := (RX0, TX0, 18)) rfl _) rfl rfl hl.1 rfl (Nat.le_of_ble_eq_true rfl) dX0_odds_77 ⟨(Nat.le_of_ble_eq_true rfl), (Nat.le_of_ble_eq_true rfl)⟩) (fun r18 g m19 H locs hp hle hX => ?_)
          obtain ⟨S3, Z3, hL, hp⟩ := hp
          obtain ⟨hr_, hkk⟩ := hp
          have hx3 := hx0.xk hI hkk
          have f0_ : zB S3 0 = zB S 0 := hkk.2.1.1
          rw [← f0_] at hl
          subst hQ
          exact j_iret hC (pc := 80) hX hr hlk (Nat.le_of_ble_eq_true rfl) (Nat.le_of_ble_eq_true rfl) dX0_odds_80 ⟨_, _, hL, ⟨by show _ = (op_odds F V i b).1; unfold op_odds; rw [if_pos (by omega), if_neg (by omega), hr_]; unfold oddO; rw [if_neg (by omega)], (fun k hk => hkk.1 k (Or.inr hk) (by simp; omega)), hx3⟩⟩
      · skip
        refine j_bipush hC (pc := 41) dX0_odds_41 (by decide) ?_
        refine j_goto hC (pc := 43) 80 dX0_odds_43 (by decide) ?_
        subst hQ
        exact j_iret hC (pc := 80) hX hr hlk (Nat.le_of_ble_eq_true rfl) (Nat.le_of_ble_eq_true rfl) dX0_odds_80 ⟨_, _, hL, ⟨by show _ = (op_odds F V i b).1; unfold op_odds; rw [if_pos (by omega), if_pos (by omega)], (fun k hk => sk.rf), by show xRel N x S Z (op_odds F V i b).2.1 (op_odds F V i b).2.2; unfold op_odds; exact hx0⟩⟩
    · skip
      refine j_bipush hC (pc := 26) dX0_odds_26 (by decide) ?_
      subst hQ
      exact j_iret hC (pc := 28) hX hr hlk (Nat.le_of_ble_eq_true rfl) (Nat.le_of_ble_eq_true rfl) dX0_odds_28 ⟨_, _, hL, ⟨by show _ = (op_odds F V i b).1; unfold op_odds; rw [if_neg (by omega)], (fun k hk => sk.rf), by show xRel N x S Z (op_odds F V i b).2.1 (op_odds F V i b).2.2; unfold op_odds; exact hx0⟩⟩
