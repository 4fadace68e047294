/-! FairFight: Odds made and asked -/
theorem nO.wide {q h : Int} {Su : Int → Int → Int} {S : LbS} {Z : Nat → Int → Int} {sl : Int} (hn : nO q h Su sl S Z) (h7 : ¬ Z 200 7 = 0) : wideI Su sl = 1 := by
  rcases hn.2.2 with ⟨a, -⟩ | ⟨-, b, -⟩
  · exact a
  · exact absurd b h7
theorem nO.fine {q h : Int} {Su : Int → Int → Int} {S : LbS} {Z : Nat → Int → Int} {sl : Int} (hn : nO q h Su sl S Z) (h7 : Z 200 7 = 0) : wideI Su sl = 0 ∧ Z 200 6 = widestF Su sl ∧ Z 200 2 = 6 ^ sl.toNat ∧ acF q h (Z 201 0) Z (resZ Su sl z3) := by
  rcases hn.2.2 with ⟨-, a⟩ | ⟨a, -, b, d, e⟩
  · omega
  · exact ⟨a, b, d, e⟩
theorem nO.b7 {q h : Int} {Su : Int → Int → Int} {S : LbS} {Z : Nat → Int → Int} {sl : Int} (hn : nO q h Su sl S Z) : Z 200 7 = 0 ∨ Z 200 7 = 1 := by
  rcases hn.2.2 with ⟨-, a⟩ | ⟨-, a, -⟩
  · exact Or.inr a
  · exact Or.inl a
theorem nw22 {Su : Int → Int → Int} {sl : Int} (h : wideI Su sl = 0) : sl ≤ 22 := by
  unfold wideI at h
  split at h
  · cases h
  · omega
/-- a row at a label -/
def rwA (S : LbS) (Z : Nat → Int → Int) (lb : Nat) (f : Int → Int) : Prop := lb < 200 ∧ zK S lb = 1 ∧ zN S lb = 3 ∧ ∀ q : Int, 0 ≤ q → q < 3 → Z lb q = f q
theorem rwA.kp {S S' : LbS} {Z Z' : Nat → Int → Int} {lb : Nat} {f : Int → Int} (h : rwA S Z lb f) (hs : sk S Z S' Z' lb) : rwA S' Z' lb f :=
  ⟨h.1, hs.2.1.trans h.2.1, hs.2.2.1.trans h.2.2.1, fun q a b => by rw [hs.2.2.2.2]; exact h.2.2.2 q a b⟩
theorem xRel.row {N : Nat → Nat} {x : Nat} {S : LbS} {Z : Nat → Int → Int} {F : Nat → Int} {V : Nat → Int → Int} (h : xRel N x S Z F V) : rwA S Z 3 (V 2) ∧ rwA S Z 4 (fun q => V 2 (3 + q)) :=
  ⟨⟨by decide, h.sp.k 3 rfl, h.sp.n 3 rfl, fun q a b => (h.si q a b).1⟩, ⟨by decide, h.sp.k 4 rfl, h.sp.n 4 rfl, fun q a b => (h.si q a b).2⟩⟩

set_option maxHeartbeats 8000000 in
set_option maxRecDepth 100000 in
theorem f0_chanceOf (D : va_G) (T N : Nat → Nat) (l : Launch) {g0 : GH} {S : LbS} {Z : Nat → Int → Int} (hL : lR T g0 S Z) (n : Nat) (x : Nat) (F : Nat → Int) (V : Nat → Int → Int) (ah af : Nat) (wh : Int → Int) (bo : Int) (hx0 : xRel N x S Z F V) (hI : SI F V) (hwo : rwOk F wh) (hbo : 0 ≤ bo ∧ bo ≤ 9) (hah : rwA S Z ah wh) (haf : rwA S Z af (fun q => wh (3 + q))) : Met l yX0_chanceOf (ws_ yX0_chanceOf cX0_chanceOf 5 (some .int)) ({ frames := 7, cells := 15, slots := 97, locals := 165 } : Room) (gPc D T N [.ref (zB S 0), .ref (zB S ah), .ref (zB S af), .int (iI (bo))] g0 n) (gQi D g0 n (fun r g' n' => ∃ S' Z', lR T g' S' Z' ∧ r = oddW F V wh bo (F 5) ∧ xk S Z S' Z')) 15 97 (gA g0 n) := by
  refine j_start (by decide) (Nat.le_of_ble_eq_true rfl) ?_
  intro p e s mi args below meth c hC hr hlk hnm hX ls hl
  have hC : Ct D T N (gA g0 n) p s mi args c cX0_chanceOf RX0 5 := hC
  have hx := hC.x
  have hb := hC.b
  generalize hQ : MQ below _ args s 15 97 (gA g0 n) = Q
  have hl : lv_has ls 5 [(0, .ref (zB S 0)), (1, .ref (zB S ah)), (2, .ref (zB S af)), (3, .int (iI (bo)))] := hl
  have hnn := hI.nums
  have hxn := hx0.n
  refine L_new hC hX hL (pc := 0) 200 5 in_X5 tyX5 tyX5_ok q272 q273 q48 rfl (by decide) (Nat.le_of_ble_eq_true rfl) (Nat.le_of_ble_eq_true rfl) dX0_chanceOf_0 (fun g H hX hL => ?_)
  refine lv_dup hx hb (pc := 3) dX0_chanceOf_3 rfl ?_
  refine lv_aload_n hx hb (pc := 4) dX0_chanceOf_4 rfl (lv_at hl 0 rfl) ?_
  refine L_new hC hX hL (pc := 5) 201 6 in_X6 tyX6 tyX6_ok q274 q275 q49 rfl (by decide) (Nat.le_of_ble_eq_true rfl) (Nat.le_of_ble_eq_true rfl) dX0_chanceOf_5 (fun g H hX hL => ?_)
  refine lv_dup hx hb (pc := 8) dX0_chanceOf_8 rfl ?_
  refine lv_aload_n hx hb (pc := 9) dX0_chanceOf_9 rfl (lv_at hl 0 rfl) ?_
  refine lv_aload_n hx hb (pc := 10) dX0_chanceOf_10 rfl (lv_at hl 1 rfl) ?_
  refine lv_aload_n hx hb (pc := 11) dX0_chanceOf_11 rfl (lv_at hl 2 rfl) ?_
  refine lv_iload_n hx hb (pc := 12) dX0_chanceOf_12 rfl (lv_at hl 3 rfl) ?_
  have ea0 : zB (uN (uN S 200 n (20 + 5) 0) 201 (n + 1) (20 + 6) 0) ah = zB S ah := ((show sm S _ [200, 201] from ((sm.rf.uN 200 _ _ _ (by decide)).uN 201 _ _ _ (by decide))) ah (by have := hah.1; have := haf.1; simp; omega)).1
  have ea1 : zB (uN (uN S 200 n (20 + 5) 0) 201 (n + 1) (20 + 6) 0) af = zB S af := ((show sm S _ [200, 201] from ((sm.rf.uN 200 _ _ _ (by decide)).uN 201 _ _ _ (by decide))) af (by have := hah.1; have := haf.1; simp; omega)).1
  rw [← ea0, ← ea1]
  refine j_callv (rest := [.ref (n + 1), .ref (zB S 0), .ref (n), .ref (n)]) hX (va_runI hC.fix (f6_init D T N l hL _ x ah af F V wh bo (hx0.kp hI (fun k hk => sk.of (show sm S _ [200, 201] from ((sm.rf.uN 200 _ _ _ (by decide)).uN 201 _ _ _ (by decide))) (show ch Z _ [200, 201] from ((ch.rf.up 200 _ (by decide)).up 201 _ (by decide))) (by simp; omega) (by simp; omega))) hI hwo hbo rfl (rwA.kp hah (sk.of (show sm S _ [200, 201] from ((sm.rf.uN 200 _ _ _ (by decide)).uN 201 _ _ _ (by decide))) (show ch Z _ [200, 201] from ((ch.rf.up 200 _ (by decide)).up 201 _ (by decide))) (by first | decide | (have := hah.1; have := haf.1; simp; omega)) (by first | decide | (have := hah.1; have := haf.1; simp; omega)))) (rwA.kp haf (sk.of (show sm S _ [200, 201] from ((sm.rf.uN 200 _ _ _ (by decide)).uN 201 _ _ _ (by decide))) (show ch Z _ [200, 201] from ((ch.rf.up 200 _ (by decide)).up 201 _ (by decide))) (by first | decide | (have := hah.1; have := haf.1; simp; omega)) (by first | decide | (have := hah.1; have := haf.1; simp; omega))))) (cwI 4 hC.ts (lw_meth q278) rfl rfl rfl (hC.ts _ q49) (hC.ts _ q276) (hC.ts _ q277) rfl (by decide +kernel) ⟨Nat.le_of_ble_eq_true rfl, Nat.le_of_ble_eq_true rfl⟩) (j_preS hC hX _) rfl rfl hl.1 rfl (Nat.le_of_ble_eq_true rfl) dX0_chanceOf_13 ⟨(Nat.le_of_ble_eq_true rfl), (Nat.le_of_ble_eq_true rfl)⟩) (fun g m2 H locs hp hle hX => ?_)
  obtain ⟨S2, Z2, hL, hp⟩ := hp
  obtain ⟨hq1, hq2, hq3, hq4, hq5, hq6, hq7⟩ := hp
  have e200 : zB S2 200 = n := (hq1 200 (by decide)).1
  have e201 : zB S2 201 = n + 1 := hq3
  have e0_ : zB S2 0 = zB S 0 := (hq1 0 (by decide)).1
  have hkx : xk S Z S2 Z2 := xk.of12 (sm.tr (show sm S _ [200, 201] from ((sm.rf.uN 200 _ _ _ (by decide)).uN 201 _ _ _ (by decide))) hq1 (by decide)) (ch.tr (show ch Z _ [200, 201] from ((ch.rf.up 200 _ (by decide)).up 201 _ (by decide))) hq2 (by decide)) hx0.T hx0.tb
  have hx2 := hx0.xk hI hkx
  rw [← e201, ← e200, ← e0_]
  rw [← e0_] at hl
  obtain ⟨⟨N5, hN5⟩, ⟨N9, hN9⟩⟩ := hx2.tb
  have hsu := suS_ok hI hwo.wh hbo hnn.2.2.2.1
  refine j_iconst hC (pc := 16) dX0_chanceOf_16 ?_
  refine j_callv (rest := [.ref (zB S2 200)]) hX (va_runI hC.fix (o_init0 D T N l hL _ _ _ N5 N9 hx2.T hq4 ((hq1 200 (by decide)).2.1) hq5 hsu.1 hN5 hN9 hq6 hnn.2.1 (by rw [hq2 200 (by decide)]; rfl) (by rw [hx2.n.2.2.2.1]; exact hnn.2.2.2.1) (fun y => (hsu.2.1 y).1)) (cwI 3 hC.ts (lw_meth q354) rfl rfl rfl (hC.ts _ q48) (hC.ts _ q352) (hC.ts _ q353) rfl (by decide +kernel) ⟨Nat.le_of_ble_eq_true rfl, Nat.le_of_ble_eq_true rfl⟩) (j_preS hC hX _) rfl rfl hl.1 rfl (Nat.le_of_ble_eq_true rfl) dX0_chanceOf_17 ⟨(Nat.le_of_ble_eq_true rfl), (Nat.le_of_ble_eq_true rfl)⟩) (fun g m5 H locs hp hle hX => ?_)
  obtain ⟨S3, Z3, hL, hp⟩ := hp
  obtain ⟨hkk, hno⟩ := nO_of (sl := slS F (suS F V wh bo (F 5))) hq5 rfl hkx hp
  have f200 : zB S3 200 = zB S2 200 := hp.2.1 200 (by decide) (by decide)
  have f0_ : zB S3 0 = zB S2 0 := hp.1.2.1.1
  have hx3 := hx0.xk hI hkk
  have h7_ := hno.b7
  rw [← f200]
  rw [← f0_] at hl
  refine lv_astore (lv' := [(4, .ref (zB S3 200)), (0, .ref (zB S3 0)), (1, .ref (zB S ah)), (2, .ref (zB S af)), (3, .int (iI (bo)))]) hx hb (pc := 20) dX0_chanceOf_20 hl (by decide) rfl (fun ls hl => ?_)
  refine lv_aload hx hb (pc := 22) dX0_chanceOf_22 (lv_at hl 0 rfl) ?_
  refine L_getN hC hX hL in_X5 (ci := 5) rfl (pc := 24) 200 (hno.1.o.k 200 rfl) 7 (by decide) q444 rfl (v := .int (iI (Z3 200 7))) rfl dX0_chanceOf_24 ?_
  refine j_if_eq hC (pc := 27) 35 dX0_chanceOf_27 (by decide) (by omega) (fun c7 => ?_) (fun c7 => ?_)
  · skip
    have hfi_ := hno.fine (by omega)
    have hrs_ := (chS_rg hsu.1 (fun y => (hsu.2.1 y).1) hsu.2.2.1).2
    have hev_ : 0 ≤ Z3 213 0 ∧ Z3 213 0 ≤ Z3 200 2 := by rw [hfi_.2.2.1, hfi_.2.2.2.1 0 (by decide) (by decide)]; exact hrs_
    refine lv_aload hx hb (pc := 35) dX0_chanceOf_35 (lv_at hl 0 rfl) ?_
    refine j_calli (rest := []) hX (va_runV hC.fix (o_chance D T N l hL _ 0 hno.1 (by rw [hfi_.2.2.1]; exact ⟨pow6 _, pow6_22 (nw22 hfi_.1)⟩) hev_) (cwV 0 hC.ts (lw_V q481 q482 q483 q48 q484) rfl rfl rfl (by decide +kernel) ⟨Nat.le_of_ble_eq_true rfl, Nat.le_of_ble_eq_true rfl⟩) (j_preV hC hX (hL.ob 200 (hno.1.o.k 200 rfl)) (ci := 5) (r := (RX5, TX5, 9)) rfl _) rfl rfl hl.1 rfl (Nat.le_of_ble_eq_true rfl) dX0_chanceOf_37 ⟨(Nat.le_of_ble_eq_true rfl), (Nat.le_of_ble_eq_true rfl)⟩) (fun r8 g m9 H locs hp hle hX => ?_)
    obtain ⟨hn_, Z_, hL, hS_, hp⟩ := hp
    rw [hn_] at hX
    rw [hS_] at hL
    subst hQ
    exact j_iret hC (pc := 40) hX hr hlk (Nat.le_of_ble_eq_true rfl) (Nat.le_of_ble_eq_true rfl) dX0_chanceOf_40 ⟨_, _, hL, ⟨by rw [hp, hfi_.2.2.1, hfi_.2.2.2.1 0 (by decide) (by decide)]; unfold oddW oddF; rw [if_neg (by rw [hfi_.1]; decide)]; rfl, hkk⟩⟩
  · skip
    have hwi_ := hno.wide (by omega)
    refine j_bipush hC (pc := 30) dX0_chanceOf_30 (by decide) ?_
    refine j_goto hC (pc := 32) 40 dX0_chanceOf_32 (by decide) ?_
    subst hQ
    exact j_iret hC (pc := 40) hX hr hlk (Nat.le_of_ble_eq_true rfl) (Nat.le_of_ble_eq_true rfl) dX0_chanceOf_40 ⟨_, _, hL, ⟨by unfold oddW oddF; rw [if_pos hwi_], hkk⟩⟩

set_option maxHeartbeats 8000000 in
set_option maxRecDepth 100000 in
theorem f0_oddsNow (D : va_G) (T N : Nat → Nat) (l : Launch) {g0 : GH} {S : LbS} {Z : Nat → Int → Int} (hL : lR T g0 S Z) (n : Nat) (x : Nat) (F : Nat → Int) (V : Nat → Int → Int) (hx0 : xRel N x S Z F V) (hI : SI F V) : Met l yX0_oddsNow (ws_ yX0_oddsNow cX0_oddsNow 1 (some (.object "FairFight$Odds"))) ({ frames := 7, cells := 15, slots := 97, locals := 165 } : Room) (gPc D T N [.ref (zB S 0)] g0 n) (gQq D g0 n (fun r g' n' => ∃ S' Z', lR T g' S' Z' ∧ r = some (zB S' 200) ∧ xk S Z S' Z' ∧ nO 0 (hdW (V 2)) (suN F V) (slS F (suN F V)) S' Z')) 15 97 (gA g0 n) := by
  refine j_start (by decide) (Nat.le_of_ble_eq_true rfl) ?_
  intro p e s mi args below meth c hC hr hlk hnm hX ls hl
  have hC : Ct D T N (gA g0 n) p s mi args c cX0_oddsNow RX0 1 := hC
  have hx := hC.x
  have hb := hC.b
  generalize hQ : MQ below _ args s 15 97 (gA g0 n) = Q
  have hl : lv_has ls 1 [(0, .ref (zB S 0))] := hl
  have hnn := hI.nums
  have hxn := hx0.n
  have hwo : rwOk F (V 2) := hI.2.2.1
  have hbo : (0 : Int) ≤ 0 ∧ (0 : Int) ≤ 9 := by decide
  have hah := hx0.row.1
  have haf := hx0.row.2
  refine L_new hC hX hL (pc := 0) 200 5 in_X5 tyX5 tyX5_ok q272 q273 q48 rfl (by decide) (Nat.le_of_ble_eq_true rfl) (Nat.le_of_ble_eq_true rfl) dX0_oddsNow_0 (fun g H hX hL => ?_)
  refine lv_dup hx hb (pc := 3) dX0_oddsNow_3 rfl ?_
  refine lv_aload_n hx hb (pc := 4) dX0_oddsNow_4 rfl (lv_at hl 0 rfl) ?_
  refine L_new hC hX hL (pc := 5) 201 6 in_X6 tyX6 tyX6_ok q274 q275 q49 rfl (by decide) (Nat.le_of_ble_eq_true rfl) (Nat.le_of_ble_eq_true rfl) dX0_oddsNow_5 (fun g H hX hL => ?_)
  refine lv_dup hx hb (pc := 8) dX0_oddsNow_8 rfl ?_
  refine lv_aload_n hx hb (pc := 9) dX0_oddsNow_9 rfl (lv_at hl 0 rfl) ?_
  refine lv_aload_n hx hb (pc := 10) dX0_oddsNow_10 rfl (lv_at hl 0 rfl) ?_
  refine L_getr hC hX hL in_X0 (ci := 0) rfl (pc := 11) 0 hx0.T.2.2.1 2 (by decide) q150 rfl (q := zA S 0 2) (b := zB S 2) hx0.r2 rfl dX0_oddsNow_11 ?_
  refine j_iconst hC (pc := 14) dX0_oddsNow_14 ?_
  refine L_aald hC hX hL (pc := 15) 2 5 (hx0.sp.k 2 rfl) (by decide) rfl rfl (L := 2) (hx0.sp.n 2 rfl) (by decide) (by omega) (b := zB S 3) (show _ from hx0.e.1.1) dX0_oddsNow_15 ?_
  refine lv_aload_n hx hb (pc := 16) dX0_oddsNow_16 rfl (lv_at hl 0 rfl) ?_
  refine L_getr hC hX hL in_X0 (ci := 0) rfl (pc := 17) 0 hx0.T.2.2.1 2 (by decide) q150 rfl (q := zA S 0 2) (b := zB S 2) hx0.r2 rfl dX0_oddsNow_17 ?_
  refine j_iconst hC (pc := 20) dX0_oddsNow_20 ?_
  refine L_aald hC hX hL (pc := 21) 2 5 (hx0.sp.k 2 rfl) (by decide) rfl rfl (L := 2) (hx0.sp.n 2 rfl) (by decide) (by omega) (b := zB S 4) (show _ from hx0.e.1.2) dX0_oddsNow_21 ?_
  refine j_iconst hC (pc := 22) dX0_oddsNow_22 ?_
  refine j_callv (rest := [.ref (n + 1), .ref (zB S 0), .ref (n), .ref (n)]) hX (va_runI hC.fix (f6_init D T N l hL _ x 3 4 F V (V 2) 0 (hx0.kp hI (fun k hk => sk.of (show sm S _ [200, 201] from ((sm.rf.uN 200 _ _ _ (by decide)).uN 201 _ _ _ (by decide))) (show ch Z _ [200, 201] from ((ch.rf.up 200 _ (by decide)).up 201 _ (by decide))) (by simp; omega) (by simp; omega))) hI hwo hbo rfl (rwA.kp hx0.row.1 (sk.of (show sm S _ [200, 201] from ((sm.rf.uN 200 _ _ _ (by decide)).uN 201 _ _ _ (by decide))) (show ch Z _ [200, 201] from ((ch.rf.up 200 _ (by decide)).up 201 _ (by decide))) (by first | decide | (have := hah.1; have := haf.1; simp; omega)) (by first | decide | (have := hah.1; have := haf.1; simp; omega)))) (rwA.kp hx0.row.2 (sk.of (show sm S _ [200, 201] from ((sm.rf.uN 200 _ _ _ (by decide)).uN 201 _ _ _ (by decide))) (show ch Z _ [200, 201] from ((ch.rf.up 200 _ (by decide)).up 201 _ (by decide))) (by first | decide | (have := hah.1; have := haf.1; simp; omega)) (by first | decide | (have := hah.1; have := haf.1; simp; omega))))) (cwI 4 hC.ts (lw_meth q278) rfl rfl rfl (hC.ts _ q49) (hC.ts _ q276) (hC.ts _ q277) rfl (by decide +kernel) ⟨Nat.le_of_ble_eq_true rfl, Nat.le_of_ble_eq_true rfl⟩) (j_preS hC hX _) rfl rfl hl.1 rfl (Nat.le_of_ble_eq_true rfl) dX0_oddsNow_23 ⟨(Nat.le_of_ble_eq_true rfl), (Nat.le_of_ble_eq_true rfl)⟩) (fun g m2 H locs hp hle hX => ?_)
  obtain ⟨S2, Z2, hL, hp⟩ := hp
  obtain ⟨hq1, hq2, hq3, hq4, hq5, hq6, hq7⟩ := hp
  have e200 : zB S2 200 = n := (hq1 200 (by decide)).1
  have e201 : zB S2 201 = n + 1 := hq3
  have e0_ : zB S2 0 = zB S 0 := (hq1 0 (by decide)).1
  have hkx : xk S Z S2 Z2 := xk.of12 (sm.tr (show sm S _ [200, 201] from ((sm.rf.uN 200 _ _ _ (by decide)).uN 201 _ _ _ (by decide))) hq1 (by decide)) (ch.tr (show ch Z _ [200, 201] from ((ch.rf.up 200 _ (by decide)).up 201 _ (by decide))) hq2 (by decide)) hx0.T hx0.tb
  have hx2 := hx0.xk hI hkx
  rw [← e201, ← e200, ← e0_]
  rw [← e0_] at hl
  obtain ⟨⟨N5, hN5⟩, ⟨N9, hN9⟩⟩ := hx2.tb
  have hsu := suS_ok hI hwo.wh hbo hnn.2.2.2.1
  refine j_iconst hC (pc := 26) dX0_oddsNow_26 ?_
  refine j_callv (rest := [.ref (zB S2 200)]) hX (va_runI hC.fix (o_init0 D T N l hL _ _ _ N5 N9 hx2.T hq4 ((hq1 200 (by decide)).2.1) hq5 hsu.1 hN5 hN9 hq6 hnn.2.1 (by rw [hq2 200 (by decide)]; rfl) (by rw [hx2.n.2.2.2.1]; exact hnn.2.2.2.1) (fun y => (hsu.2.1 y).1)) (cwI 3 hC.ts (lw_meth q354) rfl rfl rfl (hC.ts _ q48) (hC.ts _ q352) (hC.ts _ q353) rfl (by decide +kernel) ⟨Nat.le_of_ble_eq_true rfl, Nat.le_of_ble_eq_true rfl⟩) (j_preS hC hX _) rfl rfl hl.1 rfl (Nat.le_of_ble_eq_true rfl) dX0_oddsNow_27 ⟨(Nat.le_of_ble_eq_true rfl), (Nat.le_of_ble_eq_true rfl)⟩) (fun g m5 H locs hp hle hX => ?_)
  obtain ⟨S3, Z3, hL, hp⟩ := hp
  obtain ⟨hkk, hno⟩ := nO_of (sl := slS F (suS F V (V 2) 0 (F 5))) hq5 rfl hkx hp
  have f200 : zB S3 200 = zB S2 200 := hp.2.1 200 (by decide) (by decide)
  have f0_ : zB S3 0 = zB S2 0 := hp.1.2.1.1
  have hx3 := hx0.xk hI hkk
  have h7_ := hno.b7
  rw [← f200]
  rw [← f0_] at hl
  subst hQ
  exact j_aret (z := some (zB S3 200)) hC (pc := 30) hX hr (Or.inl ⟨_, rfl⟩) hlk (Nat.le_of_ble_eq_true rfl) (Nat.le_of_ble_eq_true rfl) dX0_oddsNow_30 ⟨_, _, hL, ⟨rfl, hkk, hno⟩⟩

set_option maxHeartbeats 4000000 in
set_option maxRecDepth 100000 in
theorem f0_all (D : va_G) (T N : Nat → Nat) (l : Launch) {g0 : GH} {S : LbS} {Z : Nat → Int → Int} (hL : lR T g0 S Z) (n : Nat) (x : Nat) (F : Nat → Int) (V : Nat → Int → Int) (hx0 : xRel N x S Z F V) (hI : SI F V) : Met l yX0_all (ws_ yX0_all cX0_all 2 (some .long)) ({ frames := 8, cells := 15, slots := 97, locals := 185 } : Room) (gPc D T N [.ref (zB S 0)] g0 n) (gQl D g0 n (fun r g' n' => ∃ S' Z', lR T g' S' Z' ∧ xP N x S Z (op_all F V) r S' Z')) 15 97 (gA g0 n) := by
  refine j_start (by decide) (Nat.le_of_ble_eq_true rfl) ?_
  intro p e s mi args below meth c hC hr hlk hnm hX ls hl
  have hC : Ct D T N (gA g0 n) p s mi args c cX0_all RX0 2 := hC
  have hx := hC.x
  have hb := hC.b
  generalize hQ : MQ below _ args s 15 97 (gA g0 n) = Q
  have hl : lv_has ls 2 [(0, .ref (zB S 0))] := hl
  have hnn := hI.nums
  have hxn := hx0.n
  have hwo : rwOk F (V 2) := hI.2.2.1
  have hbo : (0 : Int) ≤ 0 ∧ (0 : Int) ≤ 9 := by decide
  have hah := hx0.row.1
  have haf := hx0.row.2
  refine lv_aload_n hx hb (pc := 0) dX0_all_0 rfl (lv_at hl 0 rfl) ?_
  refine j_callq (rest := []) hX (va_runV hC.fix (f0_oddsNow D T N l hL _ _ _ _ hx0 hI) (cwV 0 hC.ts (lw_V q268 q270 qs2 q40 q271) rfl rfl rfl (by decide +kernel) ⟨Nat.le_of_ble_eq_true rfl, Nat.le_of_ble_eq_true rfl⟩) (j_preV hC hX (hL.ob 0 hx0.T.2.2.1) (ci := 0) (r := (RX0, TX0, 18)) rfl _) rfl rfl hl.1 rfl (Nat.le_of_ble_eq_true rfl) dX0_all_1 ⟨(Nat.le_of_ble_eq_true rfl), (Nat.le_of_ble_eq_true rfl)⟩) (fun r1 g m2 H locs hp hle hX => ?_)
  obtain ⟨S3, Z3, hL, hp⟩ := hp
  obtain ⟨hr_, hkk, hno⟩ := hp
  rw [hr_]
  have hx3 := hx0.xk hI hkk
  have h7_ := hno.b7
  have f0_ : zB S3 0 = zB S 0 := hkk.2.1.1
  rw [← f0_] at hl
  have hsu := suS_ok hI hwo.wh hbo hnn.2.2.2.1
  refine lv_astore_n (lv' := [(1, .ref (zB S3 200)), (0, .ref (zB S3 0))]) hx hb (pc := 4) dX0_all_4 rfl hl (by decide) rfl (fun ls hl => ?_)
  refine lv_aload_n hx hb (pc := 5) dX0_all_5 rfl (lv_at hl 0 rfl) ?_
  refine L_getN hC hX hL in_X5 (ci := 5) rfl (pc := 6) 200 (hno.1.o.k 200 rfl) 7 (by decide) q444 rfl (v := .int (iI (Z3 200 7))) rfl dX0_all_6 ?_
  refine j_if_eq hC (pc := 9) 20 dX0_all_9 (by decide) (by omega) (fun c4 => ?_) (fun c4 => ?_)
  · skip
    have hfi_ := hno.fine (by omega)
    refine lv_aload_n hx hb (pc := 20) dX0_all_20 rfl (lv_at hl 0 rfl) ?_
    refine L_getN hC hX hL in_X5 (ci := 5) rfl (pc := 21) 200 (hno.1.o.k 200 rfl) 2 (by decide) q434 rfl (v := .long (lI (Z3 200 2))) rfl dX0_all_21 ?_
    subst hQ
    exact j_lret hC (pc := 24) hX hr hlk (Nat.le_of_ble_eq_true rfl) (Nat.le_of_ble_eq_true rfl) dX0_all_24 ⟨_, _, hL, ⟨by show _ = (op_all F V).1; unfold op_all; rw [if_neg (by rw [hfi_.1]; decide)]; exact hfi_.2.2.1, (fun k hk => hkk.1 k (Or.inr hk) (by simp; omega)), hx3⟩⟩
  · skip
    have hwi_ := hno.wide (by omega)
    refine j_bipush hC (pc := 12) dX0_all_12 (by decide) ?_
    refine j_calll (rest := []) hX (va_runS hC.fix (f0_no D T N l (-5) (by omega) _ _) (va_cwS 1 hC.ts (lw_S q465 q466 q40 q467) rfl rfl rfl (by decide +kernel) ⟨Nat.le_of_ble_eq_true rfl, Nat.le_of_ble_eq_true rfl⟩) (j_preS hC hX _) rfl rfl hl.1 rfl (Nat.le_of_ble_eq_true rfl) dX0_all_14 ⟨(Nat.le_of_ble_eq_true rfl), (Nat.le_of_ble_eq_true rfl)⟩) (fun r5 g m6 H locs hp hle hX => ?_)
    obtain ⟨hn_, hg_, hp⟩ := hp
    rw [hn_, hg_] at hX
    refine j_goto hC (pc := 17) 24 dX0_all_17 (by decide) ?_
    subst hQ
    exact j_lret hC (pc := 24) hX hr hlk (Nat.le_of_ble_eq_true rfl) (Nat.le_of_ble_eq_true rfl) dX0_all_24 ⟨_, _, hL, ⟨by show _ = (op_all F V).1; unfold op_all; rw [if_pos hwi_]; exact hp, (fun k hk => hkk.1 k (Or.inr hk) (by simp; omega)), hx3⟩⟩

set_option maxHeartbeats 4000000 in
set_option maxRecDepth 100000 in
theorem f0_states (D : va_G) (T N : Nat → Nat) (l : Launch) {g0 : GH} {S : LbS} {Z : Nat → Int → Int} (hL : lR T g0 S Z) (n : Nat) (x : Nat) (F : Nat → Int) (V : Nat → Int → Int) (hx0 : xRel N x S Z F V) (hI : SI F V) : Met l yX0_states (ws_ yX0_states cX0_states 2 (some .int)) ({ frames := 8, cells := 15, slots := 97, locals := 185 } : Room) (gPc D T N [.ref (zB S 0)] g0 n) (gQi D g0 n (fun r g' n' => ∃ S' Z', lR T g' S' Z' ∧ xP N x S Z (op_states F V) r S' Z')) 15 97 (gA g0 n) := by
  refine j_start (by decide) (Nat.le_of_ble_eq_true rfl) ?_
  intro p e s mi args below meth c hC hr hlk hnm hX ls hl
  have hC : Ct D T N (gA g0 n) p s mi args c cX0_states RX0 2 := hC
  have hx := hC.x
  have hb := hC.b
  generalize hQ : MQ below _ args s 15 97 (gA g0 n) = Q
  have hl : lv_has ls 2 [(0, .ref (zB S 0))] := hl
  have hnn := hI.nums
  have hxn := hx0.n
  have hwo : rwOk F (V 2) := hI.2.2.1
  have hbo : (0 : Int) ≤ 0 ∧ (0 : Int) ≤ 9 := by decide
  have hah := hx0.row.1
  have haf := hx0.row.2
  refine lv_aload_n hx hb (pc := 0) dX0_states_0 rfl (lv_at hl 0 rfl) ?_
  refine j_callq (rest := []) hX (va_runV hC.fix (f0_oddsNow D T N l hL _ _ _ _ hx0 hI) (cwV 0 hC.ts (lw_V q268 q270 qs2 q40 q271) rfl rfl rfl (by decide +kernel) ⟨Nat.le_of_ble_eq_true rfl, Nat.le_of_ble_eq_true rfl⟩) (j_preV hC hX (hL.ob 0 hx0.T.2.2.1) (ci := 0) (r := (RX0, TX0, 18)) rfl _) rfl rfl hl.1 rfl (Nat.le_of_ble_eq_true rfl) dX0_states_1 ⟨(Nat.le_of_ble_eq_true rfl), (Nat.le_of_ble_eq_true rfl)⟩) (fun r1 g m2 H locs hp hle hX => ?_)
  obtain ⟨S3, Z3, hL, hp⟩ := hp
  obtain ⟨hr_, hkk, hno⟩ := hp
  rw [hr_]
  have hx3 := hx0.xk hI hkk
  have h7_ := hno.b7
  have f0_ : zB S3 0 = zB S 0 := hkk.2.1.1
  rw [← f0_] at hl
  have hsu := suS_ok hI hwo.wh hbo hnn.2.2.2.1
  refine lv_astore_n (lv' := [(1, .ref (zB S3 200)), (0, .ref (zB S3 0))]) hx hb (pc := 4) dX0_states_4 rfl hl (by decide) rfl (fun ls hl => ?_)
  refine lv_aload_n hx hb (pc := 5) dX0_states_5 rfl (lv_at hl 0 rfl) ?_
  refine L_getN hC hX hL in_X5 (ci := 5) rfl (pc := 6) 200 (hno.1.o.k 200 rfl) 7 (by decide) q444 rfl (v := .int (iI (Z3 200 7))) rfl dX0_states_6 ?_
  refine j_if_eq hC (pc := 9) 17 dX0_states_9 (by decide) (by omega) (fun c4 => ?_) (fun c4 => ?_)
  · skip
    have hfi_ := hno.fine (by omega)
    refine lv_aload_n hx hb (pc := 17) dX0_states_17 rfl (lv_at hl 0 rfl) ?_
    refine L_getN hC hX hL in_X5 (ci := 5) rfl (pc := 18) 200 (hno.1.o.k 200 rfl) 6 (by decide) q442 rfl (v := .int (iI (Z3 200 6))) rfl dX0_states_18 ?_
    subst hQ
    exact j_iret hC (pc := 21) hX hr hlk (Nat.le_of_ble_eq_true rfl) (Nat.le_of_ble_eq_true rfl) dX0_states_21 ⟨_, _, hL, ⟨by show _ = (op_states F V).1; unfold op_states; rw [if_neg (by rw [hfi_.1]; decide)]; exact hfi_.2.1, (fun k hk => hkk.1 k (Or.inr hk) (by simp; omega)), hx3⟩⟩
  · skip
    have hwi_ := hno.wide (by omega)
    refine j_bipush hC (pc := 12) dX0_states_12 (by decide) ?_
    refine j_goto hC (pc := 14) 21 dX0_states_14 (by decide) ?_
    subst hQ
    exact j_iret hC (pc := 21) hX hr hlk (Nat.le_of_ble_eq_true rfl) (Nat.le_of_ble_eq_true rfl) dX0_states_21 ⟨_, _, hL, ⟨by show _ = (op_states F V).1; unfold op_states; rw [if_pos hwi_], (fun k hk => hkk.1 k (Or.inr hk) (by simp; omega)), hx3⟩⟩

set_option maxHeartbeats 4000000 in
set_option maxRecDepth 100000 in
theorem f0_ways (D : va_G) (T N : Nat → Nat) (l : Launch) {g0 : GH} {S : LbS} {Z : Nat → Int → Int} (hL : lR T g0 S Z) (n : Nat) (x : Nat) (F : Nat → Int) (V : Nat → Int → Int) (ev : Int) (hx0 : xRel N x S Z F V) (hI : SI F V) (hg : (-2147483648 ≤ ev ∧ ev ≤ 2147483647)) : Met l yX0_ways (ws_ yX0_ways cX0_ways 3 (some .long)) ({ frames := 8, cells := 15, slots := 97, locals := 185 } : Room) (gPc D T N [.ref (zB S 0), .int (iI (ev))] g0 n) (gQl D g0 n (fun r g' n' => ∃ S' Z', lR T g' S' Z' ∧ xP N x S Z (op_ways F V ev) r S' Z')) 15 97 (gA g0 n) := by
  refine j_start (by decide) (Nat.le_of_ble_eq_true rfl) ?_
  intro p e s mi args below meth c hC hr hlk hnm hX ls hl
  have hC : Ct D T N (gA g0 n) p s mi args c cX0_ways RX0 3 := hC
  have hx := hC.x
  have hb := hC.b
  generalize hQ : MQ below _ args s 15 97 (gA g0 n) = Q
  have hl : lv_has ls 3 [(0, .ref (zB S 0)), (1, .int (iI (ev)))] := hl
  have hnn := hI.nums
  have hxn := hx0.n
  have hwo : rwOk F (V 2) := hI.2.2.1
  have hbo : (0 : Int) ≤ 0 ∧ (0 : Int) ≤ 9 := by decide
  have hah := hx0.row.1
  have haf := hx0.row.2
  refine lv_iload_n hx hb (pc := 0) dX0_ways_0 rfl (lv_at hl 1 rfl) ?_
  refine j_iconst hC (pc := 1) dX0_ways_1 ?_
  refine j_iconst hC (pc := 2) dX0_ways_2 ?_
  refine j_calli (rest := []) hX (va_runS hC.fix (f0_in D T N l ev 0 2 (by omega) _ _) (va_cwS 3 hC.ts (lw_S q215 q216 q40 q217) rfl rfl rfl (by decide +kernel) ⟨Nat.le_of_ble_eq_true rfl, Nat.le_of_ble_eq_true rfl⟩) (j_preS hC hX _) rfl rfl hl.1 rfl (Nat.le_of_ble_eq_true rfl) dX0_ways_3 ⟨(Nat.le_of_ble_eq_true rfl), (Nat.le_of_ble_eq_true rfl)⟩) (fun r1 g m2 H locs hp hle hX => ?_)
  obtain ⟨hn_, hg_, hp⟩ := hp
  rw [hn_, hg_] at hX
  have hq_r1 := inF_of hp
  refine j_if_ne hC (pc := 6) 15 dX0_ways_6 (by decide) (by omega) (fun c3 => ?_) (fun c3 => ?_)
  · skip
    refine lv_aload_n hx hb (pc := 15) dX0_ways_15 rfl (lv_at hl 0 rfl) ?_
    refine j_callq (rest := []) hX (va_runV hC.fix (f0_oddsNow D T N l hL _ _ _ _ hx0 hI) (cwV 0 hC.ts (lw_V q268 q270 qs2 q40 q271) rfl rfl rfl (by decide +kernel) ⟨Nat.le_of_ble_eq_true rfl, Nat.le_of_ble_eq_true rfl⟩) (j_preV hC hX (hL.ob 0 hx0.T.2.2.1) (ci := 0) (r := (RX0, TX0, 18)) rfl _) rfl rfl hl.1 rfl (Nat.le_of_ble_eq_true rfl) dX0_ways_16 ⟨(Nat.le_of_ble_eq_true rfl), (Nat.le_of_ble_eq_true rfl)⟩) (fun r4 g m5 H locs hp hle hX => ?_)
    obtain ⟨S3, Z3, hL, hp⟩ := hp
    obtain ⟨hr_, hkk, hno⟩ := hp
    rw [hr_]
    have hx3 := hx0.xk hI hkk
    have h7_ := hno.b7
    have f0_ : zB S3 0 = zB S 0 := hkk.2.1.1
    rw [← f0_] at hl
    have hsu := suS_ok hI hwo.wh hbo hnn.2.2.2.1
    refine lv_astore_n (lv' := [(2, .ref (zB S3 200)), (0, .ref (zB S3 0)), (1, .int (iI (ev)))]) hx hb (pc := 19) dX0_ways_19 rfl hl (by decide) rfl (fun ls hl => ?_)
    refine lv_aload_n hx hb (pc := 20) dX0_ways_20 rfl (lv_at hl 0 rfl) ?_
    refine L_getN hC hX hL in_X5 (ci := 5) rfl (pc := 21) 200 (hno.1.o.k 200 rfl) 7 (by decide) q444 rfl (v := .int (iI (Z3 200 7))) rfl dX0_ways_21 ?_
    refine j_if_eq hC (pc := 24) 35 dX0_ways_24 (by decide) (by omega) (fun c7 => ?_) (fun c7 => ?_)
    · skip
      have hfi_ := hno.fine (by omega)
      refine lv_aload_n hx hb (pc := 35) dX0_ways_35 rfl (lv_at hl 0 rfl) ?_
      refine L_getrN hC hX hL in_X5 (ci := 5) rfl (pc := 36) 200 (hno.1.o.k 200 rfl) 3 (by decide) q436 rfl (q := zA S3 200 3) (b := zB S3 213) hno.1.r.2.1 rfl dX0_ways_36 ?_
      refine lv_iload_n hx hb (pc := 39) dX0_ways_39 rfl (lv_at hl 2 rfl) ?_
      refine L_lald hC hX hL (pc := 40) 213 (hno.1.o.k 213 rfl) (L := 3) (hno.1.o.n 213 rfl) (by decide) (by omega) (z := Z3 213 ev) rfl dX0_ways_40 ?_
      subst hQ
      exact j_lret hC (pc := 41) hX hr hlk (Nat.le_of_ble_eq_true rfl) (Nat.le_of_ble_eq_true rfl) dX0_ways_41 ⟨_, _, hL, ⟨by show _ = (op_ways F V ev).1; unfold op_ways; rw [if_pos (by omega)]; rw [if_neg (by rw [hfi_.1]; decide)]; exact hfi_.2.2.2.1 ev (by omega) (by omega), (fun k hk => hkk.1 k (Or.inr hk) (by simp; omega)), hx3⟩⟩
    · skip
      have hwi_ := hno.wide (by omega)
      refine j_bipush hC (pc := 27) dX0_ways_27 (by decide) ?_
      refine j_calll (rest := []) hX (va_runS hC.fix (f0_no D T N l (-5) (by omega) _ _) (va_cwS 1 hC.ts (lw_S q465 q466 q40 q467) rfl rfl rfl (by decide +kernel) ⟨Nat.le_of_ble_eq_true rfl, Nat.le_of_ble_eq_true rfl⟩) (j_preS hC hX _) rfl rfl hl.1 rfl (Nat.le_of_ble_eq_true rfl) dX0_ways_29 ⟨(Nat.le_of_ble_eq_true rfl), (Nat.le_of_ble_eq_true rfl)⟩) (fun r8 g m9 H locs hp hle hX => ?_)
      obtain ⟨hn_, hg_, hp⟩ := hp
      rw [hn_, hg_] at hX
      refine j_goto hC (pc := 32) 41 dX0_ways_32 (by decide) ?_
      subst hQ
      exact j_lret hC (pc := 41) hX hr hlk (Nat.le_of_ble_eq_true rfl) (Nat.le_of_ble_eq_true rfl) dX0_ways_41 ⟨_, _, hL, ⟨by show _ = (op_ways F V ev).1; unfold op_ways; rw [if_pos (by omega), if_pos hwi_]; exact hp, (fun k hk => hkk.1 k (Or.inr hk) (by simp; omega)), hx3⟩⟩
  · skip
    refine j_bipush hC (pc := 9) dX0_ways_9 (by decide) ?_
    refine j_calll (rest := []) hX (va_runS hC.fix (f0_no D T N l (-2) (by omega) _ _) (va_cwS 1 hC.ts (lw_S q465 q466 q40 q467) rfl rfl rfl (by decide +kernel) ⟨Nat.le_of_ble_eq_true rfl, Nat.le_of_ble_eq_true rfl⟩) (j_preS hC hX _) rfl rfl hl.1 rfl (Nat.le_of_ble_eq_true rfl) dX0_ways_11 ⟨(Nat.le_of_ble_eq_true rfl), (Nat.le_of_ble_eq_true rfl)⟩) (fun r10 g m11 H locs hp hle hX => ?_)
    obtain ⟨hn_, hg_, hp⟩ := hp
    rw [hn_, hg_] at hX
    subst hQ
    exact j_lret hC (pc := 14) hX hr hlk (Nat.le_of_ble_eq_true rfl) (Nat.le_of_ble_eq_true rfl) dX0_ways_14 ⟨_, _, hL, ⟨by show _ = (op_ways F V ev).1; unfold op_ways; rw [if_neg (by omega)]; exact hp, (fun k hk => sk.rf), hx0⟩⟩

set_option maxHeartbeats 4000000 in
set_option maxRecDepth 100000 in
theorem f0_ends (D : va_G) (T N : Nat → Nat) (l : Launch) {g0 : GH} {S : LbS} {Z : Nat → Int → Int} (hL : lR T g0 S Z) (n : Nat) (x : Nat) (F : Nat → Int) (V : Nat → Int → Int) (rn : Int) (hx0 : xRel N x S Z F V) (hI : SI F V) (hg : (-2147483648 ≤ rn ∧ rn ≤ 2147483647)) : Met l yX0_ends (ws_ yX0_ends cX0_ends 3 (some .long)) ({ frames := 8, cells := 15, slots := 97, locals := 185 } : Room) (gPc D T N [.ref (zB S 0), .int (iI (rn))] g0 n) (gQl D g0 n (fun r g' n' => ∃ S' Z', lR T g' S' Z' ∧ xP N x S Z (op_ends F V rn) r S' Z')) 15 97 (gA g0 n) := by
  refine j_start (by decide) (Nat.le_of_ble_eq_true rfl) ?_
  intro p e s mi args below meth c hC hr hlk hnm hX ls hl
  have hC : Ct D T N (gA g0 n) p s mi args c cX0_ends RX0 3 := hC
  have hx := hC.x
  have hb := hC.b
  generalize hQ : MQ below _ args s 15 97 (gA g0 n) = Q
  have hl : lv_has ls 3 [(0, .ref (zB S 0)), (1, .int (iI (rn)))] := hl
  have hnn := hI.nums
  have hxn := hx0.n
  have hwo : rwOk F (V 2) := hI.2.2.1
  have hbo : (0 : Int) ≤ 0 ∧ (0 : Int) ≤ 9 := by decide
  have hah := hx0.row.1
  have haf := hx0.row.2
  refine lv_iload_n hx hb (pc := 0) dX0_ends_0 rfl (lv_at hl 1 rfl) ?_
  refine j_iconst hC (pc := 1) dX0_ends_1 ?_
  refine lv_aload_n hx hb (pc := 2) dX0_ends_2 rfl (lv_at hl 0 rfl) ?_
  refine L_get hC hX hL in_X0 (ci := 0) rfl (pc := 3) 0 hx0.T.2.2.1 3 (by decide) q152 rfl (v := .int (iI (Z 0 3))) rfl dX0_ends_3 ?_
  refine j_calli (rest := []) hX (va_runS hC.fix (f0_in D T N l rn 0 (Z 0 3) (by omega) _ _) (va_cwS 3 hC.ts (lw_S q215 q216 q40 q217) rfl rfl rfl (by decide +kernel) ⟨Nat.le_of_ble_eq_true rfl, Nat.le_of_ble_eq_true rfl⟩) (j_preS hC hX _) rfl rfl hl.1 rfl (Nat.le_of_ble_eq_true rfl) dX0_ends_6 ⟨(Nat.le_of_ble_eq_true rfl), (Nat.le_of_ble_eq_true rfl)⟩) (fun r1 g m2 H locs hp hle hX => ?_)
  obtain ⟨hn_, hg_, hp⟩ := hp
  rw [hn_, hg_] at hX
  have hq_r1 := inF_of hp
  refine j_if_ne hC (pc := 9) 18 dX0_ends_9 (by decide) (by omega) (fun c3 => ?_) (fun c3 => ?_)
  · skip
    refine lv_aload_n hx hb (pc := 18) dX0_ends_18 rfl (lv_at hl 0 rfl) ?_
    refine j_callq (rest := []) hX (va_runV hC.fix (f0_oddsNow D T N l hL _ _ _ _ hx0 hI) (cwV 0 hC.ts (lw_V q268 q270 qs2 q40 q271) rfl rfl rfl (by decide +kernel) ⟨Nat.le_of_ble_eq_true rfl, Nat.le_of_ble_eq_true rfl⟩) (j_preV hC hX (hL.ob 0 hx0.T.2.2.1) (ci := 0) (r := (RX0, TX0, 18)) rfl _) rfl rfl hl.1 rfl (Nat.le_of_ble_eq_true rfl) dX0_ends_19 ⟨(Nat.le_of_ble_eq_true rfl), (Nat.le_of_ble_eq_true rfl)⟩) (fun r4 g m5 H locs hp hle hX => ?_)
    obtain ⟨S3, Z3, hL, hp⟩ := hp
    obtain ⟨hr_, hkk, hno⟩ := hp
    rw [hr_]
    have hx3 := hx0.xk hI hkk
    have h7_ := hno.b7
    have f0_ : zB S3 0 = zB S 0 := hkk.2.1.1
    rw [← f0_] at hl
    have hsu := suS_ok hI hwo.wh hbo hnn.2.2.2.1
    refine lv_astore_n (lv' := [(2, .ref (zB S3 200)), (0, .ref (zB S3 0)), (1, .int (iI (rn)))]) hx hb (pc := 22) dX0_ends_22 rfl hl (by decide) rfl (fun ls hl => ?_)
    refine lv_aload_n hx hb (pc := 23) dX0_ends_23 rfl (lv_at hl 0 rfl) ?_
    refine L_getN hC hX hL in_X5 (ci := 5) rfl (pc := 24) 200 (hno.1.o.k 200 rfl) 7 (by decide) q444 rfl (v := .int (iI (Z3 200 7))) rfl dX0_ends_24 ?_
    refine j_if_eq hC (pc := 27) 38 dX0_ends_27 (by decide) (by omega) (fun c7 => ?_) (fun c7 => ?_)
    · skip
      have hfi_ := hno.fine (by omega)
      refine lv_aload_n hx hb (pc := 38) dX0_ends_38 rfl (lv_at hl 0 rfl) ?_
      refine L_getrN hC hX hL in_X5 (ci := 5) rfl (pc := 39) 200 (hno.1.o.k 200 rfl) 4 (by decide) q438 rfl (q := zA S3 200 4) (b := zB S3 214) hno.1.r.2.2.1 rfl dX0_ends_39 ?_
      refine lv_iload_n hx hb (pc := 42) dX0_ends_42 rfl (lv_at hl 2 rfl) ?_
      refine L_lald hC hX hL (pc := 43) 214 (hno.1.o.k 214 rfl) (L := 7) (hno.1.o.n 214 rfl) (by decide) (by omega) (z := Z3 214 rn) rfl dX0_ends_43 ?_
      subst hQ
      exact j_lret hC (pc := 44) hX hr hlk (Nat.le_of_ble_eq_true rfl) (Nat.le_of_ble_eq_true rfl) dX0_ends_44 ⟨_, _, hL, ⟨by show _ = (op_ends F V rn).1; unfold op_ends; rw [if_pos (by omega)]; rw [if_neg (by rw [hfi_.1]; decide)]; exact hfi_.2.2.2.2.1 rn (by omega) (by omega), (fun k hk => hkk.1 k (Or.inr hk) (by simp; omega)), hx3⟩⟩
    · skip
      have hwi_ := hno.wide (by omega)
      refine j_bipush hC (pc := 30) dX0_ends_30 (by decide) ?_
      refine j_calll (rest := []) hX (va_runS hC.fix (f0_no D T N l (-5) (by omega) _ _) (va_cwS 1 hC.ts (lw_S q465 q466 q40 q467) rfl rfl rfl (by decide +kernel) ⟨Nat.le_of_ble_eq_true rfl, Nat.le_of_ble_eq_true rfl⟩) (j_preS hC hX _) rfl rfl hl.1 rfl (Nat.le_of_ble_eq_true rfl) dX0_ends_32 ⟨(Nat.le_of_ble_eq_true rfl), (Nat.le_of_ble_eq_true rfl)⟩) (fun r8 g m9 H locs hp hle hX => ?_)
      obtain ⟨hn_, hg_, hp⟩ := hp
      rw [hn_, hg_] at hX
      refine j_goto hC (pc := 35) 44 dX0_ends_35 (by decide) ?_
      subst hQ
      exact j_lret hC (pc := 44) hX hr hlk (Nat.le_of_ble_eq_true rfl) (Nat.le_of_ble_eq_true rfl) dX0_ends_44 ⟨_, _, hL, ⟨by show _ = (op_ends F V rn).1; unfold op_ends; rw [if_pos (by omega), if_pos hwi_]; exact hp, (fun k hk => hkk.1 k (Or.inr hk) (by simp; omega)), hx3⟩⟩
  · skip
    refine j_bipush hC (pc := 12) dX0_ends_12 (by decide) ?_
    refine j_calll (rest := []) hX (va_runS hC.fix (f0_no D T N l (-2) (by omega) _ _) (va_cwS 1 hC.ts (lw_S q465 q466 q40 q467) rfl rfl rfl (by decide +kernel) ⟨Nat.le_of_ble_eq_true rfl, Nat.le_of_ble_eq_true rfl⟩) (j_preS hC hX _) rfl rfl hl.1 rfl (Nat.le_of_ble_eq_true rfl) dX0_ends_14 ⟨(Nat.le_of_ble_eq_true rfl), (Nat.le_of_ble_eq_true rfl)⟩) (fun r10 g m11 H locs hp hle hX => ?_)
    obtain ⟨hn_, hg_, hp⟩ := hp
    rw [hn_, hg_] at hX
    subst hQ
    exact j_lret hC (pc := 17) hX hr hlk (Nat.le_of_ble_eq_true rfl) (Nat.le_of_ble_eq_true rfl) dX0_ends_17 ⟨_, _, hL, ⟨by show _ = (op_ends F V rn).1; unfold op_ends; rw [if_neg (by omega)]; exact hp, (fun k hk => sk.rf), hx0⟩⟩

set_option maxHeartbeats 4000000 in
set_option maxRecDepth 100000 in
theorem f0_chance (D : va_G) (T N : Nat → Nat) (l : Launch) {g0 : GH} {S : LbS} {Z : Nat → Int → Int} (hL : lR T g0 S Z) (n : Nat) (x : Nat) (F : Nat → Int) (V : Nat → Int → Int) (hx0 : xRel N x S Z F V) (hI : SI F V) : Met l yX0_chance (ws_ yX0_chance cX0_chance 1 (some .int)) ({ frames := 8, cells := 15, slots := 97, locals := 189 } : Room) (gPc D T N [.ref (zB S 0)] g0 n) (gQi D g0 n (fun r g' n' => ∃ S' Z', lR T g' S' Z' ∧ xP N x S Z (op_chance F V) r S' Z')) 15 97 (gA g0 n) := by
  refine j_start (by decide) (Nat.le_of_ble_eq_true rfl) ?_
  intro p e s mi args below meth c hC hr hlk hnm hX ls hl
  have hC : Ct D T N (gA g0 n) p s mi args c cX0_chance RX0 1 := hC
  have hx := hC.x
  have hb := hC.b
  generalize hQ : MQ below _ args s 15 97 (gA g0 n) = Q
  have hl : lv_has ls 1 [(0, .ref (zB S 0))] := hl
  have hnn := hI.nums
  have hxn := hx0.n
  have hwo : rwOk F (V 2) := hI.2.2.1
  have hbo : (0 : Int) ≤ 0 ∧ (0 : Int) ≤ 9 := by decide
  have hah := hx0.row.1
  have haf := hx0.row.2
  refine lv_aload_n hx hb (pc := 0) dX0_chance_0 rfl (lv_at hl 0 rfl) ?_
  refine lv_aload_n hx hb (pc := 1) dX0_chance_1 rfl (lv_at hl 0 rfl) ?_
  refine L_getr hC hX hL in_X0 (ci := 0) rfl (pc := 2) 0 hx0.T.2.2.1 2 (by decide) q150 rfl (q := zA S 0 2) (b := zB S 2) hx0.r2 rfl dX0_chance_2 ?_
  refine j_iconst hC (pc := 5) dX0_chance_5 ?_
  refine L_aald hC hX hL (pc := 6) 2 5 (hx0.sp.k 2 rfl) (by decide) rfl rfl (L := 2) (hx0.sp.n 2 rfl) (by decide) (by omega) (b := zB S 3) (show _ from hx0.e.1.1) dX0_chance_6 ?_
  refine lv_aload_n hx hb (pc := 7) dX0_chance_7 rfl (lv_at hl 0 rfl) ?_
  refine L_getr hC hX hL in_X0 (ci := 0) rfl (pc := 8) 0 hx0.T.2.2.1 2 (by decide) q150 rfl (q := zA S 0 2) (b := zB S 2) hx0.r2 rfl dX0_chance_8 ?_
  refine j_iconst hC (pc := 11) dX0_chance_11 ?_
  refine L_aald hC hX hL (pc := 12) 2 5 (hx0.sp.k 2 rfl) (by decide) rfl rfl (L := 2) (hx0.sp.n 2 rfl) (by decide) (by omega) (b := zB S 4) (show _ from hx0.e.1.2) dX0_chance_12 ?_
  refine j_iconst hC (pc := 13) dX0_chance_13 ?_
  refine j_calli (rest := []) hX (va_runV hC.fix (f0_chanceOf D T N l hL _ _ _ _ 3 4 (V 2) _ hx0 hI hwo hbo hah haf) (cwV 3 hC.ts (lw_V q477 q479 qs7 q40 q480) rfl rfl rfl (by decide +kernel) ⟨Nat.le_of_ble_eq_true rfl, Nat.le_of_ble_eq_true rfl⟩) (j_preV hC hX (hL.ob 0 hx0.T.2.2.1) (ci := 0) (r := (RX0, TX0, 18)) rfl _) rfl rfl hl.1 rfl (Nat.le_of_ble_eq_true rfl) dX0_chance_14 ⟨(Nat.le_of_ble_eq_true rfl), (Nat.le_of_ble_eq_true rfl)⟩) (fun r1 g m2 H locs hp hle hX => ?_)
  obtain ⟨S3, Z3, hL, hp⟩ := hp
  obtain ⟨hr_, hkk⟩ := hp
  have hx3 := hx0.xk hI hkk
  subst hQ
  exact j_iret hC (pc := 17) hX hr hlk (Nat.le_of_ble_eq_true rfl) (Nat.le_of_ble_eq_true rfl) dX0_chance_17 ⟨_, _, hL, ⟨hr_, (fun k hk => hkk.1 k (Or.inr hk) (by simp; omega)), hx3⟩⟩
