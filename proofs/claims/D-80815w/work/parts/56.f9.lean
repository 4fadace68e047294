/-! FairFight: a fighter tuned, a side told -/
set_option maxHeartbeats 4000000 in
set_option maxRecDepth 100000 in
theorem f0_tune (D : va_G) (T N : Nat → Nat) (l : Launch) {g0 : GH} {S : LbS} {Z : Nat → Int → Int} (hL : lR T g0 S Z) (n : Nat) (x : Nat) (F : Nat → Int) (V : Nat → Int → Int) (f w v : Int) (hx0 : xRel N x S Z F V) (hI : SI F V) (hg : (-2147483648 ≤ f ∧ f ≤ 2147483647) ∧ (-2147483648 ≤ w ∧ w ≤ 2147483647) ∧ (-2147483648 ≤ v ∧ v ≤ 2147483647)) : Met l yX0_tune (ws_ yX0_tune cX0_tune 5 (some .int)) ({ frames := 2, cells := 0, slots := 0, locals := 43 } : Room) (gPc D T N [.ref (zB S 0), .int (iI (f)), .int (iI (w)), .int (iI (v))] g0 n) (gQi D g0 n (fun r g' n' => ∃ S' Z', lR T g' S' Z' ∧ xP N x S Z (op_tune F V f w v) r S' Z')) 0 0 (gA g0 n) := by
  refine j_start (by decide) (Nat.le_of_ble_eq_true rfl) ?_
  intro p e s mi args below meth c hC hr hlk hnm hX ls hl
  have hC : Ct D T N (gA g0 n) p s mi args c cX0_tune RX0 5 := hC
  have hx := hC.x
  have hb := hC.b
  generalize hQ : MQ below _ args s 0 0 (gA g0 n) = Q
  have hl : lv_has ls 5 [(0, .ref (zB S 0)), (1, .int (iI (f))), (2, .int (iI (w))), (3, .int (iI (v)))] := hl
  have hnn := hI.nums
  have hxn := hx0.n
  refine lv_aload_n hx hb (pc := 0) dX0_tune_0 rfl (lv_at hl 0 rfl) ?_
  refine lv_iload_n hx hb (pc := 1) dX0_tune_1 rfl (lv_at hl 1 rfl) ?_
  refine j_calli (rest := []) hX (va_runV hC.fix (f0_isFighter D T N l hL _ _ _ _ f hx0 hI (by omega)) (cwV 1 hC.ts (lw_V q233 q235 qs0 q40 q236) rfl rfl rfl (by decide +kernel) ⟨Nat.le_of_ble_eq_true rfl, Nat.le_of_ble_eq_true rfl⟩) (j_preV hC hX (hL.ob 0 hx0.T.2.2.1) (ci := 0) (r := (RX0, TX0, 18)) rfl _) rfl rfl hl.1 rfl (Nat.le_of_ble_eq_true rfl) dX0_tune_2 ⟨(Nat.le_of_ble_eq_true rfl), (Nat.le_of_ble_eq_true rfl)⟩) (fun r1 g m2 H locs hp hle hX => ?_)
  obtain ⟨hn_, Z_, hL, hS_, hp⟩ := hp
  rw [hn_] at hX
  rw [hS_] at hL
  have hq_r1 := inF_of hp
  refine j_if_eq hC (pc := 5) 25 dX0_tune_5 (by decide) (by omega) (fun c4 => ?_) (fun c4 => ?_)
  · skip
    refine j_bipush hC (pc := 25) dX0_tune_25 (by decide) ?_
    subst hQ
    exact j_iret hC (pc := 27) hX hr hlk (Nat.le_of_ble_eq_true rfl) (Nat.le_of_ble_eq_true rfl) dX0_tune_27 ⟨_, _, hL, (by refine ⟨?_, fun _ _ => sk.rf, ?_⟩ <;> unfold op_tune <;> rw [if_neg (by omega)]; exact hx0)⟩
  · skip
    refine lv_iload_n hx hb (pc := 8) dX0_tune_8 rfl (lv_at hl 2 rfl) ?_
    refine j_iconst hC (pc := 9) dX0_tune_9 ?_
    refine j_iconst hC (pc := 10) dX0_tune_10 ?_
    refine j_calli (rest := []) hX (va_runS hC.fix (f0_in D T N l w 1 5 (by omega) _ _) (va_cwS 3 hC.ts (lw_S q215 q216 q40 q217) rfl rfl rfl (by decide +kernel) ⟨Nat.le_of_ble_eq_true rfl, Nat.le_of_ble_eq_true rfl⟩) (j_preS hC hX _) rfl rfl hl.1 rfl (Nat.le_of_ble_eq_true rfl) dX0_tune_11 ⟨(Nat.le_of_ble_eq_true rfl), (Nat.le_of_ble_eq_true rfl)⟩) (fun r5 g m6 H locs hp hle hX => ?_)
    obtain ⟨hn_, hg_, hp⟩ := hp
    rw [hn_, hg_] at hX
    have hq_r5 := inF_of hp
    refine j_if_eq hC (pc := 14) 25 dX0_tune_14 (by decide) (by omega) (fun c7 => ?_) (fun c7 => ?_)
    · skip
      refine j_bipush hC (pc := 25) dX0_tune_25 (by decide) ?_
      subst hQ
      exact j_iret hC (pc := 27) hX hr hlk (Nat.le_of_ble_eq_true rfl) (Nat.le_of_ble_eq_true rfl) dX0_tune_27 ⟨_, _, hL, (by refine ⟨?_, fun _ _ => sk.rf, ?_⟩ <;> unfold op_tune <;> rw [if_neg (by omega)]; exact hx0)⟩
    · skip
      refine lv_iload_n hx hb (pc := 17) dX0_tune_17 rfl (lv_at hl 2 rfl) ?_
      refine lv_iload_n hx hb (pc := 18) dX0_tune_18 rfl (lv_at hl 3 rfl) ?_
      refine j_calli (rest := []) hX (va_runS hC.fix (f0_isNumber D T N l w v (by omega) _ _) (va_cwS 2 hC.ts (lw_S q212 q213 q40 q214) rfl rfl rfl (by decide +kernel) ⟨Nat.le_of_ble_eq_true rfl, Nat.le_of_ble_eq_true rfl⟩) (j_preS hC hX _) rfl rfl hl.1 rfl (Nat.le_of_ble_eq_true rfl) dX0_tune_19 ⟨(Nat.le_of_ble_eq_true rfl), (Nat.le_of_ble_eq_true rfl)⟩) (fun r8 g m9 H locs hp hle hX => ?_)
      obtain ⟨hn_, hg_, hp⟩ := hp
      rw [hn_, hg_] at hX
      have hq_r8 := numF_of hp
      refine j_if_ne hC (pc := 22) 28 dX0_tune_22 (by decide) (by omega) (fun c10 => ?_) (fun c10 => ?_)
      · skip
        have hfi := hx0.fi f (by omega) (by omega)
        refine lv_aload_n hx hb (pc := 28) dX0_tune_28 rfl (lv_at hl 0 rfl) ?_
        refine L_getr hC hX hL in_X0 (ci := 0) rfl (pc := 29) 0 hx0.T.2.2.1 0 (by decide) q148 rfl (q := zA S 0 0) (b := zB S 1) hx0.r0 rfl dX0_tune_29 ?_
        refine lv_iload_n hx hb (pc := 32) dX0_tune_32 rfl (lv_at hl 1 rfl) ?_
        refine L_aald hC hX hL (pc := 33) 1 7 (hx0.sp.k 1 rfl) (by decide) rfl rfl (L := 16) (hx0.sp.n 1 rfl) (by decide) (by omega) (b := zB S (32 + f.toNat)) hfi.1 dX0_tune_33 ?_
        refine L_getrN hC hX hL in_X4 (ci := 4) rfl (pc := 34) (32 + f.toNat) hfi.2.1.1 0 (by decide) q225 rfl (q := zA S (32 + f.toNat) 0) (b := zB S (48 + f.toNat)) hfi.2.1.2 rfl dX0_tune_34 ?_
        refine lv_iload_n hx hb (pc := 37) dX0_tune_37 rfl (lv_at hl 2 rfl) ?_
        refine L_iald hC hX hL (pc := 38) (48 + f.toNat) hfi.2.2.1.1 (L := 6) hfi.2.2.1.2 (by decide) (by omega) (z := Z (48 + f.toNat) w) (by first | rfl | (repeat rw [va_up_ne _ _ (by omega)])) dX0_tune_38 ?_
        refine lv_istore (lv' := [(4, .int (iI (Z (48 + f.toNat) w))), (0, .ref (zB S 0)), (1, .int (iI (f))), (2, .int (iI (w))), (3, .int (iI (v)))]) hx hb (pc := 39) dX0_tune_39 hl (by decide) rfl (fun ls hl => ?_)
        refine lv_aload_n hx hb (pc := 41) dX0_tune_41 rfl (lv_at hl 1 rfl) ?_
        refine L_getr hC hX hL in_X0 (ci := 0) rfl (pc := 42) 0 hx0.T.2.2.1 0 (by decide) q148 rfl (q := zA S 0 0) (b := zB S 1) hx0.r0 rfl dX0_tune_42 ?_
        refine lv_iload_n hx hb (pc := 45) dX0_tune_45 rfl (lv_at hl 2 rfl) ?_
        refine L_aald hC hX hL (pc := 46) 1 7 (hx0.sp.k 1 rfl) (by decide) rfl rfl (L := 16) (hx0.sp.n 1 rfl) (by decide) (by omega) (b := zB S (32 + f.toNat)) hfi.1 dX0_tune_46 ?_
        refine L_getrN hC hX hL in_X4 (ci := 4) rfl (pc := 47) (32 + f.toNat) hfi.2.1.1 0 (by decide) q225 rfl (q := zA S (32 + f.toNat) 0) (b := zB S (48 + f.toNat)) hfi.2.1.2 rfl dX0_tune_47 ?_
        refine lv_iload_n hx hb (pc := 50) dX0_tune_50 rfl (lv_at hl 3 rfl) ?_
        refine lv_iload_n hx hb (pc := 51) dX0_tune_51 rfl (lv_at hl 4 rfl) ?_
        refine L_iast hC hX hL (pc := 52) (48 + f.toNat) hfi.2.2.1.1 (L := 6) hfi.2.2.1.2 (by decide) (by omega) (f := uI (Z (48 + f.toNat)) w v) (by first | rfl | (repeat rw [va_up_ne _ _ (by omega)])) dX0_tune_52 (fun g H locs hX hL => ?_)
        refine lv_iload hx hb (pc := 53) dX0_tune_53 (lv_at hl 0 rfl) ?_
        subst hQ
        exact j_iret hC (pc := 55) hX hr hlk (Nat.le_of_ble_eq_true rfl) (Nat.le_of_ble_eq_true rfl) dX0_tune_55 ⟨_, _, hL, (by unfold op_tune; rw [if_pos (by omega)]; exact ⟨hfi.2.2.2 w (by omega) (by omega), fun y hy => sk.up (by omega), hx0.told hI (by omega) (by omega)⟩)⟩
      · skip
        refine j_bipush hC (pc := 25) dX0_tune_25 (by decide) ?_
        subst hQ
        exact j_iret hC (pc := 27) hX hr hlk (Nat.le_of_ble_eq_true rfl) (Nat.le_of_ble_eq_true rfl) dX0_tune_27 ⟨_, _, hL, (by refine ⟨?_, fun _ _ => sk.rf, ?_⟩ <;> unfold op_tune <;> rw [if_neg (by omega)]; exact hx0)⟩

theorem cnR_many {f : Int → Int} {a b d : Int} (h0 : f 0 = a) (h1 : f 1 = b) (h2 : f 2 = d) {k : Int} (hr : rowF a b d k = 1) : cnR f = manyA a b d := by
  unfold rowF at hr
  unfold cnR manyA
  rw [h0, h1, h2]
  split at hr
  · (repeat' split) <;> omega
  · cases hr

set_option maxHeartbeats 4000000 in
set_option maxRecDepth 100000 in
theorem f0_side (D : va_G) (T N : Nat → Nat) (l : Launch) {g0 : GH} {S : LbS} {Z : Nat → Int → Int} (hL : lR T g0 S Z) (n : Nat) (x : Nat) (F : Nat → Int) (V : Nat → Int → Int) (v a b d : Int) (hx0 : xRel N x S Z F V) (hI : SI F V) (hg : (-2147483648 ≤ v ∧ v ≤ 2147483647) ∧ (-2147483648 ≤ a ∧ a ≤ 2147483647) ∧ (-2147483648 ≤ b ∧ b ≤ 2147483647) ∧ (-2147483648 ≤ d ∧ d ≤ 2147483647)) : Met l yX0_side (ws_ yX0_side cX0_side 6 (some .int)) ({ frames := 3, cells := 1, slots := 3, locals := 67 } : Room) (gPc D T N [.ref (zB S 0), .int (iI (v)), .int (iI (a)), .int (iI (b)), .int (iI (d))] g0 n) (gQi D g0 n (fun r g' n' => ∃ S' Z', lR T g' S' Z' ∧ xP N x S Z (op_side F V v a b d) r S' Z')) 1 3 (gA g0 n) := by
  refine j_start (by decide) (Nat.le_of_ble_eq_true rfl) ?_
  intro p e s mi args below meth c hC hr hlk hnm hX ls hl
  have hC : Ct D T N (gA g0 n) p s mi args c cX0_side RX0 6 := hC
  have hx := hC.x
  have hb := hC.b
  generalize hQ : MQ below _ args s 1 3 (gA g0 n) = Q
  have hl : lv_has ls 6 [(0, .ref (zB S 0)), (1, .int (iI (v))), (2, .int (iI (a))), (3, .int (iI (b))), (4, .int (iI (d)))] := hl
  have hnn := hI.nums
  have hxn := hx0.n
  refine lv_iload_n hx hb (pc := 0) dX0_side_0 rfl (lv_at hl 1 rfl) ?_
  refine j_iconst hC (pc := 1) dX0_side_1 ?_
  refine j_iconst hC (pc := 2) dX0_side_2 ?_
  refine j_calli (rest := []) hX (va_runS hC.fix (f0_in D T N l v 0 1 (by omega) _ _) (va_cwS 3 hC.ts (lw_S q215 q216 q40 q217) rfl rfl rfl (by decide +kernel) ⟨Nat.le_of_ble_eq_true rfl, Nat.le_of_ble_eq_true rfl⟩) (j_preS hC hX _) rfl rfl hl.1 rfl (Nat.le_of_ble_eq_true rfl) dX0_side_3 ⟨(Nat.le_of_ble_eq_true rfl), (Nat.le_of_ble_eq_true rfl)⟩) (fun r1 g m2 H locs hp hle hX => ?_)
  obtain ⟨hn_, hg_, hp⟩ := hp
  rw [hn_, hg_] at hX
  have hq_r1 := inF_of hp
  refine j_if_eq hC (pc := 6) 20 dX0_side_6 (by decide) (by omega) (fun c3 => ?_) (fun c3 => ?_)
  · skip
    refine j_bipush hC (pc := 20) dX0_side_20 (by decide) ?_
    subst hQ
    exact j_iret hC (pc := 22) hX hr hlk (Nat.le_of_ble_eq_true rfl) (Nat.le_of_ble_eq_true rfl) dX0_side_22 ⟨_, _, hL, (by refine ⟨?_, fun _ _ => sk.rf, ?_⟩ <;> unfold op_side <;> rw [if_neg (by omega)]; exact hx0)⟩
  · skip
    refine lv_aload_n hx hb (pc := 9) dX0_side_9 rfl (lv_at hl 0 rfl) ?_
    refine lv_iload_n hx hb (pc := 10) dX0_side_10 rfl (lv_at hl 2 rfl) ?_
    refine lv_iload_n hx hb (pc := 11) dX0_side_11 rfl (lv_at hl 3 rfl) ?_
    refine lv_iload hx hb (pc := 12) dX0_side_12 (lv_at hl 4 rfl) ?_
    refine j_calli (rest := []) hX (va_runV hC.fix (f0_isRow D T N l hL _ _ _ _ a b d hx0 hI (by omega)) (cwV 3 hC.ts (lw_V q245 q247 qs1 q40 q248) rfl rfl rfl (by decide +kernel) ⟨Nat.le_of_ble_eq_true rfl, Nat.le_of_ble_eq_true rfl⟩) (j_preV hC hX (hL.ob 0 hx0.T.2.2.1) (ci := 0) (r := (RX0, TX0, 18)) rfl _) rfl rfl hl.1 rfl (Nat.le_of_ble_eq_true rfl) dX0_side_14 ⟨(Nat.le_of_ble_eq_true rfl), (Nat.le_of_ble_eq_true rfl)⟩) (fun r4 g m5 H locs hp hle hX => ?_)
    obtain ⟨hn_, Z_, hL, hS_, hp⟩ := hp
    rw [hn_] at hX
    rw [hS_] at hL
    have hq_r4 := rowF_of hp
    have hq_row := hq_r4
    refine j_if_ne hC (pc := 17) 23 dX0_side_17 (by decide) (by omega) (fun c7 => ?_) (fun c7 => ?_)
    · skip
      rcases (show v = 0 ∨ v = 1 by omega) with hv | hv
      · skip
        subst hv
        refine j_iconst hC (pc := 23) dX0_side_23 ?_
        refine L_newI hC hX hL (pc := 24) 3 0 (by decide) (atype := .int) (ty := .int) rfl rfl (fun cA h => h) rfl q103 (k := 3) rfl (by decide) (by decide) (Nat.le_of_ble_eq_true rfl) (Nat.le_of_ble_eq_true rfl) dX0_side_24 (fun g H hX hL => ?_)
        refine lv_dup hx hb (pc := 26) dX0_side_26 rfl ?_
        refine j_iconst hC (pc := 27) dX0_side_27 ?_
        refine lv_iload_n hx hb (pc := 28) dX0_side_28 rfl (lv_at hl 2 rfl) ?_
        refine L_iast hC hX hL (pc := 29) 3 rfl (L := 3) rfl (by decide) (by omega) (f := uI (fun _ => 0) 0 a) rfl dX0_side_29 (fun g H locs hX hL => ?_)
        refine lv_dup hx hb (pc := 30) dX0_side_30 rfl ?_
        refine j_iconst hC (pc := 31) dX0_side_31 ?_
        refine lv_iload_n hx hb (pc := 32) dX0_side_32 rfl (lv_at hl 3 rfl) ?_
        refine L_iast hC hX hL (pc := 33) 3 rfl (L := 3) rfl (by decide) (by omega) (f := uI (uI (fun _ => 0) 0 a) 1 b) rfl dX0_side_33 (fun g H locs hX hL => ?_)
        refine lv_dup hx hb (pc := 34) dX0_side_34 rfl ?_
        refine j_iconst hC (pc := 35) dX0_side_35 ?_
        refine lv_iload hx hb (pc := 36) dX0_side_36 (lv_at hl 4 rfl) ?_
        refine L_iast hC hX hL (pc := 38) 3 rfl (L := 3) rfl (by decide) (by omega) (f := uI (uI (uI (fun _ => 0) 0 a) 1 b) 2 d) rfl dX0_side_38 (fun g H locs hX hL => ?_)
        refine lv_astore (lv' := [(5, .ref (n)), (0, .ref (zB S 0)), (1, .int (iI (0))), (2, .int (iI (a))), (3, .int (iI (b))), (4, .int (iI (d)))]) hx hb (pc := 39) dX0_side_39 hl (by decide) rfl (fun ls hl => ?_)
        refine lv_aload_n hx hb (pc := 41) dX0_side_41 rfl (lv_at hl 1 rfl) ?_
        refine L_getr hC hX hL in_X0 (ci := 0) rfl (pc := 42) 0 hx0.T.2.2.1 2 (by decide) q150 rfl (q := zA S 0 2) (b := zB S 2) hx0.r2 rfl dX0_side_42 ?_
        refine lv_iload_n hx hb (pc := 45) dX0_side_45 rfl (lv_at hl 2 rfl) ?_
        refine lv_aload hx hb (pc := 46) dX0_side_46 (lv_at hl 0 rfl) ?_
        refine L_aastR hC hX hL (pc := 48) 2 3 (hx0.sp.k 2 rfl) rfl (L := 2) (hx0.sp.n 2 rfl) (by decide) (by omega) dX0_side_48 (fun g H locs hX hL => ?_)
        refine lv_aload hx hb (pc := 49) dX0_side_49 (lv_at hl 0 rfl) ?_
        refine j_calli (rest := []) hX (va_runS hC.fix (x_manyOf D T N l hL _ 3 rfl rfl (fun q y1 y2 => by rcases (show q = 0 ∨ q = 1 ∨ q = 2 by omega) with rfl | rfl | rfl; exact (show -1 ≤ a ∧ a ≤ 15 by omega); exact (show -1 ≤ b ∧ b ≤ 15 by omega); exact (show -1 ≤ d ∧ d ≤ 15 by omega))) (va_cwS 1 hC.ts (lw_S q249 q250 q40 q251) rfl rfl rfl (by decide +kernel) ⟨Nat.le_of_ble_eq_true rfl, Nat.le_of_ble_eq_true rfl⟩) (j_preS hC hX _) rfl rfl hl.1 rfl (Nat.le_of_ble_eq_true rfl) dX0_side_51 ⟨(Nat.le_of_ble_eq_true rfl), (Nat.le_of_ble_eq_true rfl)⟩) (fun r8 g m9 H locs hp hle hX => ?_)
        obtain ⟨hn_, Z_, hL, hS_, hp⟩ := hp
        rw [hn_] at hX
        rw [hS_] at hL
        subst hQ
        exact j_iret hC (pc := 54) hX hr hlk (Nat.le_of_ble_eq_true rfl) (Nat.le_of_ble_eq_true rfl) dX0_side_54 ⟨_, _, hL, (by unfold op_side; rw [if_pos (by omega)]; exact ⟨hp.trans (cnR_many (k := F 0) rfl rfl rfl (by omega)), fun y hy => sk.of (show sm S _ [2, 3, 4] from ((sm.rf.uN 3 _ _ _ (by decide)).uA 2 _ (by decide))) (show ch Z _ [2, 3, 4] from ((((ch.rf.up 3 _ (by decide)).up 3 _ (by decide)).up 3 _ (by decide)).up 3 _ (by decide))) (by simp; omega) (by simp; omega), hx0.sideW hI (i := 0) (by decide) (show ch Z _ [3 + (0 : Int).toNat] from ((((ch.rf.up 3 _ (by decide)).up 3 _ (by decide)).up 3 _ (by decide)).up 3 _ (by decide))) ⟨rfl, rfl, rfl⟩⟩)⟩
      · skip
        subst hv
        refine j_iconst hC (pc := 23) dX0_side_23 ?_
        refine L_newI hC hX hL (pc := 24) 4 0 (by decide) (atype := .int) (ty := .int) rfl rfl (fun cA h => h) rfl q103 (k := 3) rfl (by decide) (by decide) (Nat.le_of_ble_eq_true rfl) (Nat.le_of_ble_eq_true rfl) dX0_side_24 (fun g H hX hL => ?_)
        refine lv_dup hx hb (pc := 26) dX0_side_26 rfl ?_
        refine j_iconst hC (pc := 27) dX0_side_27 ?_
        refine lv_iload_n hx hb (pc := 28) dX0_side_28 rfl (lv_at hl 2 rfl) ?_
        refine L_iast hC hX hL (pc := 29) 4 rfl (L := 3) rfl (by decide) (by omega) (f := uI (fun _ => 0) 0 a) rfl dX0_side_29 (fun g H locs hX hL => ?_)
        refine lv_dup hx hb (pc := 30) dX0_side_30 rfl ?_
        refine j_iconst hC (pc := 31) dX0_side_31 ?_
        refine lv_iload_n hx hb (pc := 32) dX0_side_32 rfl (lv_at hl 3 rfl) ?_
        refine L_iast hC hX hL (pc := 33) 4 rfl (L := 3) rfl (by decide) (by omega) (f := uI (uI (fun _ => 0) 0 a) 1 b) rfl dX0_side_33 (fun g H locs hX hL => ?_)
        refine lv_dup hx hb (pc := 34) dX0_side_34 rfl ?_
        refine j_iconst hC (pc := 35) dX0_side_35 ?_
        refine lv_iload hx hb (pc := 36) dX0_side_36 (lv_at hl 4 rfl) ?_
        refine L_iast hC hX hL (pc := 38) 4 rfl (L := 3) rfl (by decide) (by omega) (f := uI (uI (uI (fun _ => 0) 0 a) 1 b) 2 d) rfl dX0_side_38 (fun g H locs hX hL => ?_)
        refine lv_astore (lv' := [(5, .ref (n)), (0, .ref (zB S 0)), (1, .int (iI (1))), (2, .int (iI (a))), (3, .int (iI (b))), (4, .int (iI (d)))]) hx hb (pc := 39) dX0_side_39 hl (by decide) rfl (fun ls hl => ?_)
        refine lv_aload_n hx hb (pc := 41) dX0_side_41 rfl (lv_at hl 1 rfl) ?_
        refine L_getr hC hX hL in_X0 (ci := 0) rfl (pc := 42) 0 hx0.T.2.2.1 2 (by decide) q150 rfl (q := zA S 0 2) (b := zB S 2) hx0.r2 rfl dX0_side_42 ?_
        refine lv_iload_n hx hb (pc := 45) dX0_side_45 rfl (lv_at hl 2 rfl) ?_
        refine lv_aload hx hb (pc := 46) dX0_side_46 (lv_at hl 0 rfl) ?_
        refine L_aastR hC hX hL (pc := 48) 2 4 (hx0.sp.k 2 rfl) rfl (L := 2) (hx0.sp.n 2 rfl) (by decide) (by omega) dX0_side_48 (fun g H locs hX hL => ?_)
        refine lv_aload hx hb (pc := 49) dX0_side_49 (lv_at hl 0 rfl) ?_
        refine j_calli (rest := []) hX (va_runS hC.fix (x_manyOf D T N l hL _ 4 rfl rfl (fun q y1 y2 => by rcases (show q = 0 ∨ q = 1 ∨ q = 2 by omega) with rfl | rfl | rfl; exact (show -1 ≤ a ∧ a ≤ 15 by omega); exact (show -1 ≤ b ∧ b ≤ 15 by omega); exact (show -1 ≤ d ∧ d ≤ 15 by omega))) (va_cwS 1 hC.ts (lw_S q249 q250 q40 q251) rfl rfl rfl (by decide +kernel) ⟨Nat.le_of_ble_eq_true rfl, Nat.le_of_ble_eq_true rfl⟩) (j_preS hC hX _) rfl rfl hl.1 rfl (Nat.le_of_ble_eq_true rfl) dX0_side_51 ⟨(Nat.le_of_ble_eq_true rfl), (Nat.le_of_ble_eq_true rfl)⟩) (fun r11 g m12 H locs hp hle hX => ?_)
        obtain ⟨hn_, Z_, hL, hS_, hp⟩ := hp
        rw [hn_] at hX
        rw [hS_] at hL
        subst hQ
        exact j_iret hC (pc := 54) hX hr hlk (Nat.le_of_ble_eq_true rfl) (Nat.le_of_ble_eq_true rfl) dX0_side_54 ⟨_, _, hL, (by unfold op_side; rw [if_pos (by omega)]; exact ⟨hp.trans (cnR_many (k := F 0) rfl rfl rfl (by omega)), fun y hy => sk.of (show sm S _ [2, 3, 4] from ((sm.rf.uN 4 _ _ _ (by decide)).uA 2 _ (by decide))) (show ch Z _ [2, 3, 4] from ((((ch.rf.up 4 _ (by decide)).up 4 _ (by decide)).up 4 _ (by decide)).up 4 _ (by decide))) (by simp; omega) (by simp; omega), hx0.sideW hI (i := 1) (by decide) (show ch Z _ [3 + (1 : Int).toNat] from ((((ch.rf.up 4 _ (by decide)).up 4 _ (by decide)).up 4 _ (by decide)).up 4 _ (by decide))) ⟨rfl, rfl, rfl⟩⟩)⟩
    · skip
      refine j_bipush hC (pc := 20) dX0_side_20 (by decide) ?_
      subst hQ
      exact j_iret hC (pc := 22) hX hr hlk (Nat.le_of_ble_eq_true rfl) (Nat.le_of_ble_eq_true rfl) dX0_side_22 ⟨_, _, hL, (by refine ⟨?_, fun _ _ => sk.rf, ?_⟩ <;> unfold op_side <;> rw [if_neg (by omega)]; exact hx0)⟩
