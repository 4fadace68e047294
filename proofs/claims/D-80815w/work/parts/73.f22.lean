/-! FairFight: a sheet's size, a sheet lost -/
set_option maxHeartbeats 4000000 in
set_option maxRecDepth 100000 in
theorem s_size (D : va_G) (T N : Nat → Nat) (l : Launch) {g0 : GH} {S : LbS} {Z : Nat → Int → Int} (hL : lR T g0 S Z) (n : Nat) (i : Int) (L : Nat) (hk : zK S (20 + i.toNat) = 22) (hfm : 0 ≤ Z (20 + i.toNat) 0 ∧ Z (20 + i.toNat) 0 ≤ 2) (hrw : zA S (20 + i.toNat) 1 = some (zB S (28 + i.toNat))) (hkd : zK S (28 + i.toNat) = shKd (Z (20 + i.toNat) 0)) (hn : zN S (28 + i.toNat) = L) (hL60 : L ≤ 60) : Met l yX2_size (ws_ yX2_size cX2_size 1 (some .int)) ({ frames := 0, cells := 0, slots := 0, locals := 0 } : Room) (gPc D T N [.ref (zB S (20 + i.toNat))] g0 n) (gQi D g0 n (fun r g' n' => n' = n ∧ ∃ Z', lR T g' S Z' ∧ Z' = Z ∧ r = (L : Int))) 0 0 (gA g0 n) := by
  refine j_start (by decide) (Nat.le_of_ble_eq_true rfl) ?_
  intro p e s mi args below meth c hC hr hlk hnm hX ls hl
  have hC : Ct D T N (gA g0 n) p s mi args c cX2_size RX2 1 := hC
  have hx := hC.x
  have hb := hC.b
  generalize hQ : MQ below _ args s 0 0 (gA g0 n) = Q
  have hl : lv_has ls 1 [(0, .ref (zB S (20 + i.toNat)))] := hl
  refine lv_aload_n hx hb (pc := 0) dX2_size_0 rfl (lv_at hl 0 rfl) ?_
  refine L_get hC hX hL in_X2 (ci := 2) rfl (pc := 1) (20 + i.toNat) hk 0 (by decide) q138 rfl (v := .int (iI (Z (20 + i.toNat) 0))) rfl dX2_size_1 ?_
  refine j_if_ne hC (pc := 4) 18 dX2_size_4 (by decide) (by omega) (fun c1 => ?_) (fun c1 => ?_)
  · skip
    refine lv_aload_n hx hb (pc := 18) dX2_size_18 rfl (lv_at hl 0 rfl) ?_
    refine L_get hC hX hL in_X2 (ci := 2) rfl (pc := 19) (20 + i.toNat) hk 0 (by decide) q138 rfl (v := .int (iI (Z (20 + i.toNat) 0))) rfl dX2_size_19 ?_
    refine j_iconst hC (pc := 22) dX2_size_22 ?_
    refine j_icmp_ne hC (pc := 23) 37 dX2_size_23 (by decide) (by omega) (fun c2 => ?_) (fun c2 => ?_)
    · skip
      have hkk : zK S (28 + i.toNat) = 1 := hkd.trans (by unfold shKd; rw [if_neg (by omega), if_neg (by omega)])
      refine lv_aload_n hx hb (pc := 37) dX2_size_37 rfl (lv_at hl 0 rfl) ?_
      refine L_getr hC hX hL in_X2 (ci := 2) rfl (pc := 38) (20 + i.toNat) hk 1 (by decide) q140 rfl (q := zA S (20 + i.toNat) 1) (b := zB S (28 + i.toNat)) hrw rfl dX2_size_38 ?_
      refine j_cast hC (pc := 41) q810 (hasC_ai hC hX (hL.ai (28 + i.toNat) (t := 0) hkk (by decide) rfl) (nm_I hC)) dX2_size_41 ?_
      refine L_alen hC hX hL (pc := 44) (28 + i.toNat) 0 hkk (by decide) (L := L) hn (z := (L : Int)) rfl dX2_size_44 ?_
      subst hQ
      exact j_iret hC (pc := 45) hX hr hlk (Nat.le_of_ble_eq_true rfl) (Nat.le_of_ble_eq_true rfl) dX2_size_45 ⟨rfl, _, hL, ⟨rfl, rfl⟩⟩
    · skip
      have hkk : zK S (28 + i.toNat) = 5 := hkd.trans (by unfold shKd; rw [if_neg (by omega), if_pos (by omega)])
      refine lv_aload_n hx hb (pc := 26) dX2_size_26 rfl (lv_at hl 0 rfl) ?_
      refine L_getr hC hX hL in_X2 (ci := 2) rfl (pc := 27) (20 + i.toNat) hk 1 (by decide) q140 rfl (q := zA S (20 + i.toNat) 1) (b := zB S (28 + i.toNat)) hrw rfl dX2_size_27 ?_
      refine j_cast hC (pc := 30) q809 (hasC_ai hC hX (hL.ai (28 + i.toNat) (t := 4) hkk (by decide) rfl) (nm_S hC)) dX2_size_30 ?_
      refine L_alen hC hX hL (pc := 33) (28 + i.toNat) 4 hkk (by decide) (L := L) hn (z := (L : Int)) rfl dX2_size_33 ?_
      refine j_goto hC (pc := 34) 45 dX2_size_34 (by decide) ?_
      subst hQ
      exact j_iret hC (pc := 45) hX hr hlk (Nat.le_of_ble_eq_true rfl) (Nat.le_of_ble_eq_true rfl) dX2_size_45 ⟨rfl, _, hL, ⟨rfl, rfl⟩⟩
  · skip
    have hkk : zK S (28 + i.toNat) = 4 := hkd.trans (by unfold shKd; rw [if_pos (by omega)])
    refine lv_aload_n hx hb (pc := 7) dX2_size_7 rfl (lv_at hl 0 rfl) ?_
    refine L_getr hC hX hL in_X2 (ci := 2) rfl (pc := 8) (20 + i.toNat) hk 1 (by decide) q140 rfl (q := zA S (20 + i.toNat) 1) (b := zB S (28 + i.toNat)) hrw rfl dX2_size_8 ?_
    refine j_cast hC (pc := 11) q808 (hasC_ai hC hX (hL.ai (28 + i.toNat) (t := 3) hkk (by decide) rfl) (nm_B hC)) dX2_size_11 ?_
    refine L_alen hC hX hL (pc := 14) (28 + i.toNat) 3 hkk (by decide) (L := L) hn (z := (L : Int)) rfl dX2_size_14 ?_
    refine j_goto hC (pc := 15) 45 dX2_size_15 (by decide) ?_
    subst hQ
    exact j_iret hC (pc := 45) hX hr hlk (Nat.le_of_ble_eq_true rfl) (Nat.le_of_ble_eq_true rfl) dX2_size_45 ⟨rfl, _, hL, ⟨rfl, rfl⟩⟩

set_option maxHeartbeats 4000000 in
set_option maxRecDepth 100000 in
theorem f0_lose (D : va_G) (T N : Nat → Nat) (l : Launch) {g0 : GH} {S : LbS} {Z : Nat → Int → Int} (hL : lR T g0 S Z) (n : Nat) (x : Nat) (F : Nat → Int) (V : Nat → Int → Int) (v : Int) (hx0 : xRel N x S Z F V) (hI : SI F V) (hg : (-2147483648 ≤ v ∧ v ≤ 2147483647)) : Met l yX0_lose (ws_ yX0_lose cX0_lose 3 (some .int)) ({ frames := 2, cells := 0, slots := 0, locals := 42 } : Room) (gPc D T N [.ref (zB S 0), .int (iI (v))] g0 n) (gQi D g0 n (fun r g' n' => ∃ S' Z', lR T g' S' Z' ∧ xP N x S Z (op_lose F V v) r S' Z')) 0 0 (gA g0 n) := by
  refine j_start (by decide) (Nat.le_of_ble_eq_true rfl) ?_
  intro p e s mi args below meth c hC hr hlk hnm hX ls hl
  have hC : Ct D T N (gA g0 n) p s mi args c cX0_lose RX0 3 := hC
  have hx := hC.x
  have hb := hC.b
  generalize hQ : MQ below _ args s 0 0 (gA g0 n) = Q
  have hl : lv_has ls 3 [(0, .ref (zB S 0)), (1, .int (iI (v)))] := hl
  have hnn := hI.nums
  have hxn := hx0.n
  refine lv_iload_n hx hb (pc := 0) dX0_lose_0 rfl (lv_at hl 1 rfl) ?_
  refine j_calli (rest := []) hX (va_runS hC.fix (f0_isSheet D T N l v (by omega) _ _) (va_cwS 1 hC.ts (lw_S q759 q760 q40 q761) rfl rfl rfl (by decide +kernel) ⟨Nat.le_of_ble_eq_true rfl, Nat.le_of_ble_eq_true rfl⟩) (j_preS hC hX _) rfl rfl hl.1 rfl (Nat.le_of_ble_eq_true rfl) dX0_lose_1 ⟨(Nat.le_of_ble_eq_true rfl), (Nat.le_of_ble_eq_true rfl)⟩) (fun r1 g m2 H locs hp hle hX => ?_)
  obtain ⟨hn_, hg_, hp⟩ := hp
  rw [hn_, hg_] at hX
  have hq_r1 := inF_of hp
  refine j_if_ne hC (pc := 4) 10 dX0_lose_4 (by decide) (by omega) (fun c3 => ?_) (fun c3 => ?_)
  · skip
    have h23_ := hI.i23 (i := v) (by omega)
    rcases hx0.sh v (by omega) (by omega) with ⟨hn0, hnl⟩ | ⟨h0_, hfm, hrw, hkd, hln, hvl⟩
    · skip
      have h23_ := hI.i23 (i := v) (by omega)
      refine lv_aload_n hx hb (pc := 10) dX0_lose_10 rfl (lv_at hl 0 rfl) ?_
      refine L_getr hC hX hL in_X0 (ci := 0) rfl (pc := 11) 0 hx0.T.2.2.1 16 (by decide) q169 rfl (q := zA S 0 16) (b := zB S 19) hx0.r16 rfl dX0_lose_11 ?_
      refine lv_iload_n hx hb (pc := 14) dX0_lose_14 rfl (lv_at hl 1 rfl) ?_
      refine L_aald hC hX hL (pc := 15) 19 8 (hx0.sp.k 19 rfl) (by decide) rfl rfl (L := 4) (hx0.sp.n 19 rfl) (by decide) (by omega) (b := zB S (20 + v.toNat)) (hx0.sheet (by omega)) dX0_lose_15 ?_
      refine L_getN hC hX hL in_X2 (ci := 2) rfl (pc := 16) (20 + v.toNat) (hx0.skn (by omega)) 1 (by decide) q141 rfl (v := .null) (congrArg (fun q => some (va_rf q)) hnl) dX0_lose_16 ?_
      refine lv_ifnonnullN hx hb (pc := 19) dX0_lose_19 ?_
      refine lv_aload_n hx hb (pc := 22) dX0_lose_22 rfl (lv_at hl 0 rfl) ?_
      refine j_iconst hC (pc := 23) dX0_lose_23 ?_
      refine j_calli (rest := []) hX (va_runV hC.fix (f0_meets D T N l hL _ _ _ _ 1 hx0 hI (by decide)) (cwV 1 hC.ts (lw_V q762 q764 qs15 q40 q765) rfl rfl rfl (by decide +kernel) ⟨Nat.le_of_ble_eq_true rfl, Nat.le_of_ble_eq_true rfl⟩) (j_preV hC hX (hL.ob 0 hx0.T.2.2.1) (ci := 0) (r := (RX0, TX0, 18)) rfl _) rfl rfl hl.1 rfl (Nat.le_of_ble_eq_true rfl) dX0_lose_24 ⟨(Nat.le_of_ble_eq_true rfl), (Nat.le_of_ble_eq_true rfl)⟩) (fun r4 g m5 H locs hp hle hX => ?_)
      obtain ⟨hn_, Z3, hL, hp⟩ := hp
      rw [hn_] at hX
      subst hQ
      exact j_iret hC (pc := 27) hX hr hlk (Nat.le_of_ble_eq_true rfl) (Nat.le_of_ble_eq_true rfl) dX0_lose_27 ⟨_, _, hL, ⟨by show _ = (op_lose F V v).1; unfold op_lose; rw [if_pos (by omega), if_pos hn0]; exact hp.2.1, (fun k hk => by rw [hp.1]; exact sk.up (by omega)), by show xRel N x S Z3 (op_lose F V v).2.1 (op_lose F V v).2.2; unfold op_lose; rw [if_pos (by omega), if_pos hn0]; exact hp.2.2⟩⟩
    · skip
      have h23_ := hI.i23 (i := v) (by omega)
      refine lv_aload_n hx hb (pc := 10) dX0_lose_10 rfl (lv_at hl 0 rfl) ?_
      refine L_getr hC hX hL in_X0 (ci := 0) rfl (pc := 11) 0 hx0.T.2.2.1 16 (by decide) q169 rfl (q := zA S 0 16) (b := zB S 19) hx0.r16 rfl dX0_lose_11 ?_
      refine lv_iload_n hx hb (pc := 14) dX0_lose_14 rfl (lv_at hl 1 rfl) ?_
      refine L_aald hC hX hL (pc := 15) 19 8 (hx0.sp.k 19 rfl) (by decide) rfl rfl (L := 4) (hx0.sp.n 19 rfl) (by decide) (by omega) (b := zB S (20 + v.toNat)) (hx0.sheet (by omega)) dX0_lose_15 ?_
      refine L_getrN hC hX hL in_X2 (ci := 2) rfl (pc := 16) (20 + v.toNat) (hx0.skn (by omega)) 1 (by decide) q141 rfl (q := zA S (20 + v.toNat) 1) (b := zB S (28 + v.toNat)) hrw rfl dX0_lose_16 ?_
      refine lv_ifnonnull (tgt := 28) hx hb (pc := 19) dX0_lose_19 (by decide) ?_
      refine lv_aload_n hx hb (pc := 28) dX0_lose_28 rfl (lv_at hl 0 rfl) ?_
      refine L_getr hC hX hL in_X0 (ci := 0) rfl (pc := 29) 0 hx0.T.2.2.1 16 (by decide) q169 rfl (q := zA S 0 16) (b := zB S 19) hx0.r16 rfl dX0_lose_29 ?_
      refine lv_iload_n hx hb (pc := 32) dX0_lose_32 rfl (lv_at hl 1 rfl) ?_
      refine L_aald hC hX hL (pc := 33) 19 8 (hx0.sp.k 19 rfl) (by decide) rfl rfl (L := 4) (hx0.sp.n 19 rfl) (by decide) (by omega) (b := zB S (20 + v.toNat)) (hx0.sheet (by omega)) dX0_lose_33 ?_
      refine j_calli (rest := []) hX (va_runV hC.fix (s_size D T N l hL _ v _ (hx0.skn (by omega)) (by rw [hfm]; omega) hrw (by rw [hfm]; exact hkd) rfl (by omega)) (cwV 0 hC.ts (lw_V q804 q805 q806 q45 q807) rfl rfl rfl (by decide +kernel) ⟨Nat.le_of_ble_eq_true rfl, Nat.le_of_ble_eq_true rfl⟩) (j_preV hC hX (hL.ob (20 + v.toNat) (hx0.skn (by omega))) (ci := 2) (r := (RX2, TX2, 2)) rfl _) rfl rfl hl.1 rfl (Nat.le_of_ble_eq_true rfl) dX0_lose_34 ⟨(Nat.le_of_ble_eq_true rfl), (Nat.le_of_ble_eq_true rfl)⟩) (fun r7 g m8 H locs hp hle hX => ?_)
      obtain ⟨hn_, Z_, hL, hS_, hp⟩ := hp
      rw [hn_] at hX
      rw [hS_] at hL
      refine lv_istore_n (lv' := [(2, .int (iI (r7))), (0, .ref (zB S 0)), (1, .int (iI (v)))]) hx hb (pc := 37) dX0_lose_37 rfl hl (by decide) rfl (fun ls hl => ?_)
      refine lv_aload_n hx hb (pc := 38) dX0_lose_38 rfl (lv_at hl 1 rfl) ?_
      refine L_getr hC hX hL in_X0 (ci := 0) rfl (pc := 39) 0 hx0.T.2.2.1 16 (by decide) q169 rfl (q := zA S 0 16) (b := zB S 19) hx0.r16 rfl dX0_lose_39 ?_
      refine lv_iload_n hx hb (pc := 42) dX0_lose_42 rfl (lv_at hl 2 rfl) ?_
      refine L_aald hC hX hL (pc := 43) 19 8 (hx0.sp.k 19 rfl) (by decide) rfl rfl (L := 4) (hx0.sp.n 19 rfl) (by decide) (by omega) (b := zB S (20 + v.toNat)) (hx0.sheet (by omega)) dX0_lose_43 ?_
      refine lv_null hx hb (pc := 44) dX0_lose_44 ?_
      refine L_putAN hC hX hL in_X2 tyX2 tyX2_ok nmX2 (ci := 2) rfl (pc := 45) (20 + v.toNat) (hx0.skn (by omega)) 1 (by decide) q141 rfl rfl rfl rfl (f := uI (zA S (20 + v.toNat)) 1 none) (show 1 < 2 by decide) rfl dX0_lose_45 (fun g H locs hX hL => ?_)
      refine lv_iload_n hx hb (pc := 48) dX0_lose_48 rfl (lv_at hl 0 rfl) ?_
      subst hQ
      exact j_iret hC (pc := 49) hX hr hlk (Nat.le_of_ble_eq_true rfl) (Nat.le_of_ble_eq_true rfl) dX0_lose_49 ⟨_, _, hL, ⟨by show _ = (op_lose F V v).1; unfold op_lose; rw [if_pos (by omega), if_neg (by omega)]; exact hp.trans hln, (fun k hk => ⟨rfl, rfl, rfl, va_up_ne _ _ (by omega), rfl⟩), by show xRel N x _ _ (op_lose F V v).2.1 (op_lose F V v).2.2; unfold op_lose; rw [if_pos (by omega), if_neg (by omega)]; exact hx0.lost hI (by omega)⟩⟩
  · skip
    refine j_bipush hC (pc := 7) dX0_lose_7 (by decide) ?_
    subst hQ
    exact j_iret hC (pc := 9) hX hr hlk (Nat.le_of_ble_eq_true rfl) (Nat.le_of_ble_eq_true rfl) dX0_lose_9 ⟨_, _, hL, ⟨by show _ = (op_lose F V v).1; unfold op_lose; rw [if_neg (by omega)], (fun k hk => sk.rf), by show xRel N x S Z (op_lose F V v).2.1 (op_lose F V v).2.2; unfold op_lose; rw [if_neg (by omega)]; exact hx0⟩⟩
