/-! FairFight: the fights to come -/
section HVA
variable {p : Program} {s : State} {m : MethodId} {args : Array Value} {c : Code} {cc : ByteArray} {H : Heap} {locs : List Loc} {D : va_G} {T N : Nat → Nat} {A : Nat → Prop} {g : GH} {n nL : Nat} {own : String} {S S' : LbS} {Z' : Nat → Int → Int}
theorem hv_ai {ks : List Nat} (hs : sm S S' ks) (hk : 100 ∉ ks) (h1 : zK S 100 = 1) {b : Nat} (hb : zB S 100 = b) (hC : Ct D T N A p s m args c cc own nL) (hX : Wd D A s g n H locs) (hL : lR T g S' Z') : hasC "[I" s H b := by
  obtain ⟨a1, a2, a3, a4⟩ := hs 100 hk
  rw [← hb, ← a1]
  exact hasC_ai hC hX (hL.ai 100 (t := 0) (a2.trans h1) (by decide) rfl) (nm_I hC)
end HVA

set_option maxHeartbeats 4000000 in
set_option maxRecDepth 100000 in
theorem f0_fight (D : va_G) (T N : Nat → Nat) (l : Launch) {g0 : GH} {S : LbS} {Z : Nat → Int → Int} (hL : lR T g0 S Z) (n : Nat) (x : Nat) (F : Nat → Int) (V : Nat → Int → Int) (a b d : Int) (hx0 : xRel N x S Z F V) (hI : SI F V) (hg : (-2147483648 ≤ a ∧ a ≤ 2147483647) ∧ (-2147483648 ≤ b ∧ b ≤ 2147483647) ∧ (-2147483648 ≤ d ∧ d ≤ 2147483647)) : Met l yX0_fight (ws_ yX0_fight cX0_fight 5 (some .int)) ({ frames := 7, cells := 2, slots := 13, locals := 171 } : Room) (gPc D T N [.ref (zB S 0), .int (iI (a)), .int (iI (b)), .int (iI (d))] g0 n) (gQi D g0 n (fun r g' n' => ∃ S' Z', lR T g' S' Z' ∧ xP N x S Z (op_fight F V a b d) r S' Z')) 2 13 (gA g0 n) := by
  refine j_start (by decide) (Nat.le_of_ble_eq_true rfl) ?_
  intro p e s mi args below meth c hC hr hlk hnm hX ls hl
  have hC : Ct D T N (gA g0 n) p s mi args c cX0_fight RX0 5 := hC
  have hx := hC.x
  have hb := hC.b
  generalize hQ : MQ below _ args s 2 13 (gA g0 n) = Q
  have hl : lv_has ls 5 [(0, .ref (zB S 0)), (1, .int (iI (a))), (2, .int (iI (b))), (3, .int (iI (d)))] := hl
  have hnn := hI.nums
  have hxn := hx0.n
  refine lv_iload_n hx hb (pc := 0) dX0_fight_0 rfl (lv_at hl 1 rfl) ?_
  refine j_iconst hC (pc := 1) dX0_fight_1 ?_
  refine j_icmp_eq hC (pc := 2) 15 dX0_fight_2 (by decide) (by omega) (fun c1 => ?_) (fun c1 => ?_)
  · skip
    refine j_bipush hC (pc := 15) dX0_fight_15 (by decide) ?_
    subst hQ
    exact j_iret hC (pc := 17) hX hr hlk (Nat.le_of_ble_eq_true rfl) (Nat.le_of_ble_eq_true rfl) dX0_fight_17 ⟨_, _, hL, ⟨by show _ = (op_fight F V a b d).1; unfold op_fight; rw [if_neg (by omega)], (fun k hk => sk.rf), by show xRel N x S Z (op_fight F V a b d).2.1 (op_fight F V a b d).2.2; unfold op_fight; rw [if_neg (by omega)]; exact hx0⟩⟩
  · skip
    refine lv_aload_n hx hb (pc := 5) dX0_fight_5 rfl (lv_at hl 0 rfl) ?_
    refine lv_iload_n hx hb (pc := 6) dX0_fight_6 rfl (lv_at hl 1 rfl) ?_
    refine lv_iload_n hx hb (pc := 7) dX0_fight_7 rfl (lv_at hl 2 rfl) ?_
    refine lv_iload_n hx hb (pc := 8) dX0_fight_8 rfl (lv_at hl 3 rfl) ?_
    refine j_calli (rest := []) hX (va_runV hC.fix (f0_isRow D T N l hL _ _ _ _ a b d hx0 hI (by omega)) (cwV 3 hC.ts (lw_V q245 q247 qs1 q40 q248) rfl rfl rfl (by decide +kernel) ⟨Nat.le_of_ble_eq_true rfl, Nat.le_of_ble_eq_true rfl⟩) (j_preV hC hX (hL.ob 0 hx0.T.2.2.1) (ci := 0) (r := (RX0, TX0, 18)) rfl _) rfl rfl hl.1 rfl (Nat.le_of_ble_eq_true rfl) dX0_fight_9 ⟨(Nat.le_of_ble_eq_true rfl), (Nat.le_of_ble_eq_true rfl)⟩) (fun r2 g m3 H locs hp hle hX => ?_)
    obtain ⟨hn_, Z_, hL, hS_, hp⟩ := hp
    rw [hn_] at hX
    rw [hS_] at hL
    have hq_r2 := rowF_of hp
    have hq_row := hq_r2
    refine j_if_ne hC (pc := 12) 18 dX0_fight_12 (by decide) (by omega) (fun c5 => ?_) (fun c5 => ?_)
    · skip
      refine lv_aload_n hx hb (pc := 18) dX0_fight_18 rfl (lv_at hl 0 rfl) ?_
      refine L_getr hC hX hL in_X0 (ci := 0) rfl (pc := 19) 0 hx0.T.2.2.1 8 (by decide) q161 rfl (q := zA S 0 8) (b := zB S 13) hx0.r8 rfl dX0_fight_19 ?_
      refine j_calli (rest := []) hX (va_runV hC.fix (l_size13 D T N l hL _ (hx0.sp.k 13 rfl)) (cwV 0 hC.ts (lw_V q520 q521 q522 q44 q523) rfl rfl rfl (by decide +kernel) ⟨Nat.le_of_ble_eq_true rfl, Nat.le_of_ble_eq_true rfl⟩) (j_preV hC hX (hL.ob 13 (hx0.sp.k 13 rfl)) (ci := 7) (r := (RJ2, TJ2, 3)) rfl _) rfl rfl hl.1 rfl (Nat.le_of_ble_eq_true rfl) dX0_fight_22 ⟨(Nat.le_of_ble_eq_true rfl), (Nat.le_of_ble_eq_true rfl)⟩) (fun r6 g m7 H locs hp hle hX => ?_)
      obtain ⟨hn_, Z_, hL, hS_, hp⟩ := hp
      rw [hn_] at hX
      rw [hS_] at hL
      have hz_r6 : r6 = F 25 := hp.trans hx0.fg.1
      refine j_bipush hC (pc := 25) dX0_fight_25 (by decide) ?_
      refine j_icmp_ne hC (pc := 27) 33 dX0_fight_27 (by decide) (by omega) (fun c9 => ?_) (fun c9 => ?_)
      · skip
        refine j_iconst hC (pc := 33) dX0_fight_33 ?_
        refine L_newI hC hX hL (pc := 34) 100 0 (by decide) (atype := .int) (ty := .int) rfl rfl (fun cA h => h) rfl q103 (k := 3) rfl (by decide) (by decide) (Nat.le_of_ble_eq_true rfl) (Nat.le_of_ble_eq_true rfl) dX0_fight_34 (fun g H hX hL => ?_)
        refine lv_dup hx hb (pc := 36) dX0_fight_36 rfl ?_
        refine j_iconst hC (pc := 37) dX0_fight_37 ?_
        refine lv_iload_n hx hb (pc := 38) dX0_fight_38 rfl (lv_at hl 1 rfl) ?_
        refine L_iast hC hX hL (pc := 39) 100 rfl (L := 3) rfl (by decide) (by omega) (f := uI (fun _ => 0) 0 a) rfl dX0_fight_39 (fun g H locs hX hL => ?_)
        refine lv_dup hx hb (pc := 40) dX0_fight_40 rfl ?_
        refine j_iconst hC (pc := 41) dX0_fight_41 ?_
        refine lv_iload_n hx hb (pc := 42) dX0_fight_42 rfl (lv_at hl 2 rfl) ?_
        refine L_iast hC hX hL (pc := 43) 100 rfl (L := 3) rfl (by decide) (by omega) (f := uI (uI (fun _ => 0) 0 a) 1 b) rfl dX0_fight_43 (fun g H locs hX hL => ?_)
        refine lv_dup hx hb (pc := 44) dX0_fight_44 rfl ?_
        refine j_iconst hC (pc := 45) dX0_fight_45 ?_
        refine lv_iload_n hx hb (pc := 46) dX0_fight_46 rfl (lv_at hl 3 rfl) ?_
        refine L_iast hC hX hL (pc := 47) 100 rfl (L := 3) rfl (by decide) (by omega) (f := uI (uI (uI (fun _ => 0) 0 a) 1 b) 2 d) rfl dX0_fight_47 (fun g H locs hX hL => ?_)
        refine lv_astore (lv' := [(4, .ref (n)), (0, .ref (zB S 0)), (1, .int (iI (a))), (2, .int (iI (b))), (3, .int (iI (d)))]) hx hb (pc := 48) dX0_fight_48 hl (by decide) rfl (fun ls hl => ?_)
        refine lv_aload_n hx hb (pc := 50) dX0_fight_50 rfl (lv_at hl 1 rfl) ?_
        refine L_getr hC hX hL in_X0 (ci := 0) rfl (pc := 51) 0 hx0.T.2.2.1 8 (by decide) q161 rfl (q := zA S 0 8) (b := zB S 13) hx0.r8 rfl dX0_fight_51 ?_
        refine lv_aload hx hb (pc := 54) dX0_fight_54 (lv_at hl 0 rfl) ?_
        rcases hx0.fg.2.1 with ⟨hf0_, hem⟩ | hno_
        · skip
          refine j_calli (rest := []) hX (va_runV hC.fix (l_addE13 D T N l hL _ n "[I" (hx0.sp.k 13 rfl) hem (hx0.fg.1.trans hf0_) q1306 (fun hC hX hL hs => hv_ai hs (by decide) rfl rfl hC hX hL)) (cwV 1 hC.ts (lw_V q524 q525 q526 q44 q527) rfl rfl rfl (by decide +kernel) ⟨Nat.le_of_ble_eq_true rfl, Nat.le_of_ble_eq_true rfl⟩) (j_preV hC hX (hL.ob 13 (hx0.sp.k 13 rfl)) (ci := 7) (r := (RJ2, TJ2, 3)) rfl _) rfl rfl hl.1 rfl (Nat.le_of_ble_eq_true rfl) dX0_fight_56 ⟨(Nat.le_of_ble_eq_true rfl), (Nat.le_of_ble_eq_true rfl)⟩) (fun r10 g m11 H locs hp hle hX => ?_)
          obtain ⟨S3, Z3, hL, hp⟩ := hp
          obtain ⟨hr_, hSS, hc_, hzz⟩ := hp
          have hsm3 : sm S S3 [13, 24, 100] := by rw [hSS]; exact (((sm.rf.uN 100 _ _ _ (by decide)).uN 24 _ _ _ (by decide)).uA 13 _ (by decide)).uA 24 _ (by decide)
          have hch3 : ch Z Z3 [13, 24, 100] := ch.tr (show ch Z _ [100] from ((((ch.rf.up 100 _ (by decide)).up 100 _ (by decide)).up 100 _ (by decide)).up 100 _ (by decide))) hc_ (by decide)
          have f0_ : zB S3 0 = zB S 0 := (hsm3 0 (by decide)).1
          rw [← f0_] at hl
          have hv3 : Z3 100 = _ := hc_ 100 (by decide)
          refine lv_pop hx hb (pc := 59) dX0_fight_59 rfl ?_
          refine lv_aload_n hx hb (pc := 60) dX0_fight_60 rfl (lv_at hl 1 rfl) ?_
          refine L_getr hC hX hL in_X0 (ci := 0) rfl (pc := 61) 0 ((hsm3 0 (by decide)).2.1.trans hx0.T.2.2.1) 8 (by decide) q161 rfl (q := zA S3 0 8) (b := zB S3 13) (by rw [hSS]; exact hx0.r8) rfl dX0_fight_61 ?_
          refine j_calli (rest := []) hX (va_runV hC.fix (l_size13 D T N l hL _ (by rw [hSS]; exact hx0.sp.k 13 rfl)) (cwV 0 hC.ts (lw_V q520 q521 q522 q44 q523) rfl rfl rfl (by decide +kernel) ⟨Nat.le_of_ble_eq_true rfl, Nat.le_of_ble_eq_true rfl⟩) (j_preV hC hX (hL.ob 13 (by rw [hSS]; exact hx0.sp.k 13 rfl)) (ci := 7) (r := (RJ2, TJ2, 3)) rfl _) rfl rfl hl.1 rfl (Nat.le_of_ble_eq_true rfl) dX0_fight_64 ⟨(Nat.le_of_ble_eq_true rfl), (Nat.le_of_ble_eq_true rfl)⟩) (fun r13 g m14 H locs hp hle hX => ?_)
          obtain ⟨hn_, Z_, hL, hS_, hp⟩ := hp
          rw [hn_] at hX
          rw [hS_] at hL
          have hz_r13 : r13 = Z3 13 2 := hp
          subst hQ
          exact j_iret hC (pc := 67) hX hr hlk (Nat.le_of_ble_eq_true rfl) (Nat.le_of_ble_eq_true rfl) dX0_fight_67 ⟨_, _, (hL.pm (sw_sw 100 (64 + (F 25).toNat))), (by unfold op_fight; rw [if_pos (by omega), if_neg (by omega)]; exact ⟨hz_r13.trans (hzz.trans (by omega)), fun k hk => (sk.of hsm3 hch3 (by simp; omega) (by simp; omega)).swp (by omega) (by omega), hx0.addF hI (by omega) (fun k q1 q2 q3 => sk.of hsm3 hch3 (by simp; omega) (by simp; omega)) (by rw [hSS]; exact ⟨rfl, rfl, rfl⟩) (hzz.trans (by omega)) (by rw [hSS]; exact ⟨rfl, rfl, rfl⟩) (fun k q1 q2 => by omega) (by rw [hSS, hf0_]; rfl) (by rw [hSS]; exact ⟨rfl, rfl⟩) (by rw [hv3]; exact ⟨rfl, rfl, rfl⟩)⟩)⟩
        · skip
          refine j_calli (rest := []) hX (va_runV hC.fix (l_addN13 D T N l hL _ n "[I" 10 (hx0.sp.k 13 rfl) hno_.1 hno_.2 (by decide) (by show 0 ≤ Z 13 2 ∧ Z 13 2 < 10; rw [hx0.fg.1]; omega) q1306 (fun hC hX hL hs => hv_ai hs (by decide) rfl rfl hC hX hL)) (cwV 1 hC.ts (lw_V q524 q525 q526 q44 q527) rfl rfl rfl (by decide +kernel) ⟨Nat.le_of_ble_eq_true rfl, Nat.le_of_ble_eq_true rfl⟩) (j_preV hC hX (hL.ob 13 (hx0.sp.k 13 rfl)) (ci := 7) (r := (RJ2, TJ2, 3)) rfl _) rfl rfl hl.1 rfl (Nat.le_of_ble_eq_true rfl) dX0_fight_56 ⟨(Nat.le_of_ble_eq_true rfl), (Nat.le_of_ble_eq_true rfl)⟩) (fun r16 g m17 H locs hp hle hX => ?_)
          obtain ⟨S3, Z3, hL, hp⟩ := hp
          obtain ⟨hr_, hSS, hc_, hzz⟩ := hp
          have hsm3 : sm S S3 [13, 24, 100] := by rw [hSS]; exact (sm.rf.uN 100 _ _ _ (by decide)).uA 24 _ (by decide)
          have hch3 : ch Z Z3 [13, 24, 100] := ch.tr (show ch Z _ [100] from ((((ch.rf.up 100 _ (by decide)).up 100 _ (by decide)).up 100 _ (by decide)).up 100 _ (by decide))) hc_ (by decide)
          have f0_ : zB S3 0 = zB S 0 := (hsm3 0 (by decide)).1
          rw [← f0_] at hl
          have hv3 : Z3 100 = _ := hc_ 100 (by decide)
          refine lv_pop hx hb (pc := 59) dX0_fight_59 rfl ?_
          refine lv_aload_n hx hb (pc := 60) dX0_fight_60 rfl (lv_at hl 1 rfl) ?_
          refine L_getr hC hX hL in_X0 (ci := 0) rfl (pc := 61) 0 ((hsm3 0 (by decide)).2.1.trans hx0.T.2.2.1) 8 (by decide) q161 rfl (q := zA S3 0 8) (b := zB S3 13) (by rw [hSS]; exact hx0.r8) rfl dX0_fight_61 ?_
          refine j_calli (rest := []) hX (va_runV hC.fix (l_size13 D T N l hL _ (by rw [hSS]; exact hx0.sp.k 13 rfl)) (cwV 0 hC.ts (lw_V q520 q521 q522 q44 q523) rfl rfl rfl (by decide +kernel) ⟨Nat.le_of_ble_eq_true rfl, Nat.le_of_ble_eq_true rfl⟩) (j_preV hC hX (hL.ob 13 (by rw [hSS]; exact hx0.sp.k 13 rfl)) (ci := 7) (r := (RJ2, TJ2, 3)) rfl _) rfl rfl hl.1 rfl (Nat.le_of_ble_eq_true rfl) dX0_fight_64 ⟨(Nat.le_of_ble_eq_true rfl), (Nat.le_of_ble_eq_true rfl)⟩) (fun r19 g m20 H locs hp hle hX => ?_)
          obtain ⟨hn_, Z_, hL, hS_, hp⟩ := hp
          rw [hn_] at hX
          rw [hS_] at hL
          have hz_r19 : r19 = Z3 13 2 := hp
          subst hQ
          exact j_iret hC (pc := 67) hX hr hlk (Nat.le_of_ble_eq_true rfl) (Nat.le_of_ble_eq_true rfl) dX0_fight_67 ⟨_, _, (hL.pm (sw_sw 100 (64 + (F 25).toNat))), (by unfold op_fight; rw [if_pos (by omega), if_neg (by omega)]; exact ⟨hz_r19.trans (hzz.trans (by show Z 13 2 + 1 = F 25 + 1; rw [hx0.fg.1])), fun k hk => (sk.of hsm3 hch3 (by simp; omega) (by simp; omega)).swp (by omega) (by omega), hx0.addF hI (by omega) (fun k q1 q2 q3 => sk.of hsm3 hch3 (by simp; omega) (by simp; omega)) (by rw [hSS]; exact ⟨rfl, rfl, rfl⟩) (hzz.trans (by show Z 13 2 + 1 = F 25 + 1; rw [hx0.fg.1])) (by rw [hSS]; exact hno_) (fun k q1 q2 => by rw [hSS]; exact uI_n (zA S 24) _ (show k ≠ Z 13 2 by rw [hx0.fg.1]; omega)) (by rw [hSS, ← hx0.fg.1]; exact uI_s (zA S 24) (Z 13 2) _) (by rw [hSS]; exact ⟨rfl, rfl⟩) (by rw [hv3]; exact ⟨rfl, rfl, rfl⟩)⟩)⟩
      · skip
        refine j_bipush hC (pc := 30) dX0_fight_30 (by decide) ?_
        subst hQ
        exact j_iret hC (pc := 32) hX hr hlk (Nat.le_of_ble_eq_true rfl) (Nat.le_of_ble_eq_true rfl) dX0_fight_32 ⟨_, _, hL, ⟨by show _ = (op_fight F V a b d).1; unfold op_fight; rw [if_pos (by omega), if_pos (by omega)], (fun k hk => sk.rf), by show xRel N x S Z (op_fight F V a b d).2.1 (op_fight F V a b d).2.2; unfold op_fight; rw [if_pos (by omega), if_pos (by omega)]; exact hx0⟩⟩
    · skip
      refine j_bipush hC (pc := 15) dX0_fight_15 (by decide) ?_
      subst hQ
      exact j_iret hC (pc := 17) hX hr hlk (Nat.le_of_ble_eq_true rfl) (Nat.le_of_ble_eq_true rfl) dX0_fight_17 ⟨_, _, hL, ⟨by show _ = (op_fight F V a b d).1; unfold op_fight; rw [if_neg (by omega)], (fun k hk => sk.rf), by show xRel N x S Z (op_fight F V a b d).2.1 (op_fight F V a b d).2.2; unfold op_fight; rw [if_neg (by omega)]; exact hx0⟩⟩

set_option maxHeartbeats 4000000 in
set_option maxRecDepth 100000 in
theorem f0_rest (D : va_G) (T N : Nat → Nat) (l : Launch) {g0 : GH} {S : LbS} {Z : Nat → Int → Int} (hL : lR T g0 S Z) (n : Nat) (x : Nat) (F : Nat → Int) (V : Nat → Int → Int) (hx0 : xRel N x S Z F V) (hI : SI F V) : Met l yX0_rest (ws_ yX0_rest cX0_rest 2 (some .int)) ({ frames := 1, cells := 0, slots := 0, locals := 23 } : Room) (gPc D T N [.ref (zB S 0)] g0 n) (gQi D g0 n (fun r g' n' => ∃ S' Z', lR T g' S' Z' ∧ xP N x S Z (op_rest F V) r S' Z')) 0 0 (gA g0 n) := by
  refine j_start (by decide) (Nat.le_of_ble_eq_true rfl) ?_
  intro p e s mi args below meth c hC hr hlk hnm hX ls hl
  have hC : Ct D T N (gA g0 n) p s mi args c cX0_rest RX0 2 := hC
  have hx := hC.x
  have hb := hC.b
  generalize hQ : MQ below _ args s 0 0 (gA g0 n) = Q
  have hl : lv_has ls 2 [(0, .ref (zB S 0))] := hl
  have hnn := hI.nums
  have hxn := hx0.n
  refine lv_aload_n hx hb (pc := 0) dX0_rest_0 rfl (lv_at hl 0 rfl) ?_
  refine L_getr hC hX hL in_X0 (ci := 0) rfl (pc := 1) 0 hx0.T.2.2.1 8 (by decide) q161 rfl (q := zA S 0 8) (b := zB S 13) hx0.r8 rfl dX0_rest_1 ?_
  refine j_calli (rest := []) hX (va_runV hC.fix (l_size13 D T N l hL _ (hx0.sp.k 13 rfl)) (cwV 0 hC.ts (lw_V q520 q521 q522 q44 q523) rfl rfl rfl (by decide +kernel) ⟨Nat.le_of_ble_eq_true rfl, Nat.le_of_ble_eq_true rfl⟩) (j_preV hC hX (hL.ob 13 (hx0.sp.k 13 rfl)) (ci := 7) (r := (RJ2, TJ2, 3)) rfl _) rfl rfl hl.1 rfl (Nat.le_of_ble_eq_true rfl) dX0_rest_4 ⟨(Nat.le_of_ble_eq_true rfl), (Nat.le_of_ble_eq_true rfl)⟩) (fun r1 g m2 H locs hp hle hX => ?_)
  obtain ⟨hn_, Z_, hL, hS_, hp⟩ := hp
  rw [hn_] at hX
  rw [hS_] at hL
  have hz_r1 : r1 = F 25 := hp.trans hx0.fg.1
  refine lv_istore_n (lv' := [(1, .int (iI (r1))), (0, .ref (zB S 0))]) hx hb (pc := 7) dX0_rest_7 rfl hl (by decide) rfl (fun ls hl => ?_)
  refine lv_aload_n hx hb (pc := 8) dX0_rest_8 rfl (lv_at hl 1 rfl) ?_
  refine L_getr hC hX hL in_X0 (ci := 0) rfl (pc := 9) 0 hx0.T.2.2.1 8 (by decide) q161 rfl (q := zA S 0 8) (b := zB S 13) hx0.r8 rfl dX0_rest_9 ?_
  rcases hx0.fg.2.1 with ⟨hf0_, hem⟩ | hno_
  · skip
    refine j_callv (rest := []) hX (va_runV hC.fix (l_clearE13 D T N l hL _ (hx0.sp.k 13 rfl) hem (hx0.fg.1.trans hf0_)) (cwV 0 hC.ts (lw_V q585 q586 q587 q44 q588) rfl rfl rfl (by decide +kernel) ⟨Nat.le_of_ble_eq_true rfl, Nat.le_of_ble_eq_true rfl⟩) (j_preV hC hX (hL.ob 13 (hx0.sp.k 13 rfl)) (ci := 7) (r := (RJ2, TJ2, 3)) rfl _) rfl rfl hl.1 rfl (Nat.le_of_ble_eq_true rfl) dX0_rest_12 ⟨(Nat.le_of_ble_eq_true rfl), (Nat.le_of_ble_eq_true rfl)⟩) (fun g m5 H locs hp hle hX => ?_)
    obtain ⟨hn_, Z3, hL, hp⟩ := hp
    rw [hn_] at hX
    refine lv_iload_n hx hb (pc := 15) dX0_rest_15 rfl (lv_at hl 0 rfl) ?_
    subst hQ
    exact j_iret hC (pc := 16) hX hr hlk (Nat.le_of_ble_eq_true rfl) (Nat.le_of_ble_eq_true rfl) dX0_rest_16 ⟨_, _, hL, ⟨hz_r1, (fun k hk => sk.c hp.1 (by simp; omega)), hx0.rstF hI (fun k q1 q2 q3 => sk.c hp.1 (by simp; omega)) ⟨rfl, rfl, rfl⟩ hp.2 (Or.inl hem)⟩⟩
  · skip
    refine j_callv (rest := []) hX (va_runV hC.fix (l_clearN13 D T N l hL _ 10 (hx0.sp.k 13 rfl) hno_.1 hno_.2 (by decide) (by rw [hx0.fg.1]; omega)) (cwV 0 hC.ts (lw_V q585 q586 q587 q44 q588) rfl rfl rfl (by decide +kernel) ⟨Nat.le_of_ble_eq_true rfl, Nat.le_of_ble_eq_true rfl⟩) (j_preV hC hX (hL.ob 13 (hx0.sp.k 13 rfl)) (ci := 7) (r := (RJ2, TJ2, 3)) rfl _) rfl rfl hl.1 rfl (Nat.le_of_ble_eq_true rfl) dX0_rest_12 ⟨(Nat.le_of_ble_eq_true rfl), (Nat.le_of_ble_eq_true rfl)⟩) (fun g m8 H locs hp hle hX => ?_)
    obtain ⟨S3, Z3, hL, hp⟩ := hp
    refine lv_iload_n hx hb (pc := 15) dX0_rest_15 rfl (lv_at hl 0 rfl) ?_
    subst hQ
    exact j_iret hC (pc := 16) hX hr hlk (Nat.le_of_ble_eq_true rfl) (Nat.le_of_ble_eq_true rfl) dX0_rest_16 ⟨_, _, hL, ⟨hz_r1, (fun k hk => ⟨congrFun hp.1.1 k, congrFun hp.1.2.1 k, congrFun hp.1.2.2 k, hp.2.1 k (by omega), hp.2.2.1 k (by simp; omega)⟩), hx0.rstF hI (fun k q1 q2 q3 => ⟨congrFun hp.1.1 k, congrFun hp.1.2.1 k, congrFun hp.1.2.2 k, hp.2.1 k (by omega), hp.2.2.1 k (by simp; omega)⟩) ⟨congrFun hp.1.1 13, congrFun hp.1.2.1 13, congrFun hp.1.2.2 13⟩ hp.2.2.2 (Or.inr (by rw [hp.2.1 13 (by decide), hp.1.1, hp.1.2.1, hp.1.2.2]; exact hno_))⟩⟩
