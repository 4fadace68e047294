/-! FairFight: new Odds -/
theorem xT.sm {S S1 : LbS} (h : xT S) {ks : List Nat} (hs : sm S S1 ks) (hk : (([0, 5, 6, 7, 8, 9, 10, 11, 12] : List Nat).all (fun k => !ks.contains k)) = true) : xT S1 := by
  simp at hk
  obtain ⟨h5, h9, h1, h2, h3⟩ := h
  have e := fun k (q : k ∉ ks) => hs k q
  refine ⟨⟨h5.1.sm hs (by simp; simp [hk]), ?_, ?_, ?_⟩, ⟨h9.1.sm hs (by simp; simp [hk]), ?_, ?_, ?_⟩, (e 0 (by simp [hk])).2.1.trans h1, ?_, ?_⟩
  · rw [(e 5 (by simp [hk])).2.2.2, (e 6 (by simp [hk])).1]; exact h5.2.1
  · rw [(e 5 (by simp [hk])).2.2.2, (e 7 (by simp [hk])).1]; exact h5.2.2.1
  · rw [(e 5 (by simp [hk])).2.2.2, (e 8 (by simp [hk])).1]; exact h5.2.2.2
  · rw [(e 9 (by simp [hk])).2.2.2, (e 10 (by simp [hk])).1]; exact h9.2.1
  · rw [(e 9 (by simp [hk])).2.2.2, (e 11 (by simp [hk])).1]; exact h9.2.2.1
  · rw [(e 9 (by simp [hk])).2.2.2, (e 12 (by simp [hk])).1]; exact h9.2.2.2
  · rw [(e 0 (by simp [hk])).2.2.2, (e 5 (by simp [hk])).1]; exact h2
  · rw [(e 0 (by simp [hk])).2.2.2, (e 9 (by simp [hk])).1]; exact h3
/-- new Odds: its cells and accumulators -/
theorem oI_ok {T : Nat → Nat} {g : GH} {q h m : Int} {S S1 : LbS} {Z Z1 : Nat → Int → Int} (_hL : lR T g S1 Z1) (hf : fS S Z) (hT : xT S) (hs : sm S S1 [200, 213, 214, 215, 216, 217, 218, 219, 220, 221]) (hc : ch Z Z1 [200, 213, 214, 215, 216, 217, 218, 219, 220, 221]) (hsp : shp S1 [200, 213, 214]) (hr : zA S1 200 0 = some (zB S1 201) ∧ zA S1 200 3 = some (zB S1 213) ∧ zA S1 200 4 = some (zB S1 214) ∧ zA S1 200 8 = some (zB S1 0)) (hq : (q = 0 ∧ zA S1 200 5 = none) ∨ (q = 1 ∧ zA S1 200 5 = some (zB S1 215) ∧ shp S1 [215, 216, 217, 218, 219, 220, 221] ∧ ∀ k : Nat, k < 6 → zA S1 215 (k : Int) = some (zB S1 (216 + k)))) (hz : Z1 213 = (fun _ => 0) ∧ Z1 214 = (fun _ => 0) ∧ (q = 1 → ∀ k : Nat, k < 6 → Z1 (216 + k) = fun _ => 0)) (hm : m ≤ 6) : oS q S1 Z1 ∧ acF q h m Z1 z3 :=
  ⟨⟨(hf.sm hs (by decide)).ch hc (by decide), hT.sm hs (by decide), hsp, hr, hq⟩, fun e _ _ => congrFun hz.1 e, fun r _ _ => congrFun hz.2.1 r, fun hq k a b i _ _ => congrFun (hz.2.2 hq k.toNat (by omega)) i⟩

def oR (q h : Int) (Su : Int → Int → Int) (S : LbS) (Z : Nat → Int → Int) (S' : LbS) (Z' : Nat → Int → Int) : Prop :=
  xk S Z S' Z' ∧ (∀ k : Nat, 200 ≤ k → k < 213 → zB S' k = zB S k) ∧ oS q S' Z' ∧ ch Z Z' [5, 6, 7, 8, 9, 10, 11, 12, 200, 210, 211, 213, 214, 215, 216, 217, 218, 219, 220, 221] ∧ Z' 200 1 = Su 6 3 * Su 6 2 ∧
  ((22 < Su 6 3 * Su 6 2 ∧ Z' 200 7 = 1) ∨ (Su 6 3 * Su 6 2 ≤ 22 ∧ Z' 200 2 = 6 ^ (Su 6 3 * Su 6 2).toNat ∧ wkEnd q h Su (Su 6 3 * Su 6 2) Z'))
theorem oR_w {q h : Int} {Su : Int → Int → Int} {S S1 : LbS} {Z Z1 : Nat → Int → Int} (hs : sm S S1 [200, 213, 214, 215, 216, 217, 218, 219, 220, 221]) (hc : ch Z Z1 [200, 213, 214, 215, 216, 217, 218, 219, 220, 221]) (hT : xT S) (hb : xTb Z) (hb0 : zB S1 200 = zB S 200) (ho : oS q S1 Z1) (h1 : Z1 200 1 = Su 6 3 * Su 6 2) (hw : 22 < Su 6 3 * Su 6 2 ∧ Z1 200 7 = 1) : oR q h Su S Z S1 Z1 :=
  ⟨xk.of12 (hs.wd (by decide)) (hc.wd (by decide)) hT hb, fun k a b => by
    by_cases z : k = 200
    · rw [z]; exact hb0
    · exact (hs k (by simp; omega)).1, ho, hc.wd (by decide), h1, Or.inl hw⟩
theorem oR_k {q h : Int} {Su : Int → Int → Int} {S S1 S2 : LbS} {Z Z1 Z2 : Nat → Int → Int} (hs : sm S S1 [200, 213, 214, 215, 216, 217, 218, 219, 220, 221]) (hc : ch Z Z1 [200, 213, 214, 215, 216, 217, 218, 219, 220, 221]) (hT : xT S) (hb : xTb Z) (hb0 : zB S1 200 = zB S 200) (ho : oS q S1 Z1) (h1 : Z1 200 1 = Su 6 3 * Su 6 2) (hw : Su 6 3 * Su 6 2 ≤ 22)
    (hp : swR S1 S2 ∧ xT S2 ∧ ch Z1 Z2 [5, 6, 7, 8, 9, 10, 11, 12, 200, 210, 211, 213, 214, 216, 217, 218, 219, 220, 221] ∧ (∀ j : Int, j ≠ 2 → j ≠ 6 → j ≠ 7 → Z2 200 j = Z1 200 j) ∧ Z2 200 2 = 6 ^ (Z1 200 1).toNat ∧ wkEnd q h Su (Z1 200 1) Z2) : oR q h Su S Z S2 Z2 := by
  obtain ⟨p1, p2, p3, p4, p5, p6⟩ := hp
  rw [h1] at p5 p6
  have hcc : ch Z Z2 [5, 6, 7, 8, 9, 10, 11, 12, 200, 210, 211, 213, 214, 215, 216, 217, 218, 219, 220, 221] := ch.tr hc p3 (by decide)
  have k1 := xk.of12 (hs.wd (by decide)) (hc.wd (by decide)) hT hb
  refine ⟨k1.tr ⟨fun k a b => ⟨(p1.1 k b).1, (p1.1 k b).2.1, (p1.1 k b).2.2.1, (p1.1 k b).2.2.2, p3 k (by simp at b ⊢; omega)⟩, ⟨p1.2.1, p1.2.2, p3 0 (by decide)⟩, p2, p6.1⟩, fun k a b => ?_, (ho.sw p1 p2).ch p3 (by decide), hcc, (p4 1 (by decide) (by decide) (by decide)).trans h1, Or.inr ⟨hw, p5, p6⟩⟩
  rw [(p1.1 k (by simp; omega)).1]
  by_cases z : k = 200
  · rw [z]; exact hb0
  · exact (hs k (by simp; omega)).1

set_option maxHeartbeats 8000000 in
set_option maxRecDepth 100000 in
theorem o_init0 (D : va_G) (T N : Nat → Nat) (l : Launch) {g0 : GH} {S : LbS} {Z : Nat → Int → Int} (hL : lR T g0 S Z) (n : Nat) (h : Int) (Su : Int → Int → Int) (N5 N9 : List (Int × Int)) (hT : xT S) (hf : fS S Z) (hk0 : zK S 200 = 25) (hst : stR h Su Z) (hSu : okSu Su) (hN5 : tZ 5 Z N5) (hN9 : tZ 9 Z N9) (hcs : csR h (Z 201 0) (Su 1) (U0 Su) (Z 210) (Z 211)) (hR : 1 ≤ Su 6 3 ∧ Su 6 3 ≤ 6) (h6 : Z 200 6 = 0) (h51 : -1 ≤ Z 0 5 ∧ Z 0 5 ≤ 1) (hmp : winF (U0 Su) = 2 → 0 < Su 6 2) : Met l yX5_init (ws_ yX5_init cX5_init 4 none) ({ frames := 6, cells := 2, slots := 10, locals := 142 } : Room) (gPc D T N [.ref (zB S 200), .ref (zB S 0), .ref (zB S 201), .int (iI (0))] g0 n) (gQv D g0 n (fun g' n' => ∃ S' Z', lR T g' S' Z' ∧ oR 0 h Su S Z S' Z')) 2 10 (gA g0 n) := by
  refine j_start (by decide) (Nat.le_of_ble_eq_true rfl) ?_
  intro p e s mi args below meth c hC hr hlk hnm hX ls hl
  have hC : Ct D T N (gA g0 n) p s mi args c cX5_init RX5 4 := hC
  have hx := hC.x
  have hb := hC.b
  generalize hQ : MQ below _ args s 2 10 (gA g0 n) = Q
  have hl : lv_has ls 4 [(0, .ref (zB S 200)), (1, .ref (zB S 0)), (2, .ref (zB S 201)), (3, .int (iI (0)))] := hl
  have e63 : Z 0 3 * Z 201 0 = Su 6 3 * Su 6 2 := by rw [hst.n.1, hst.n.2.2.2]
  have hn6 := hf.n
  have em := hst.n.1
  have h0s : 0 ≤ Z 0 3 * Z 201 0 := by rw [e63]; exact Int.mul_nonneg (by omega) (by omega)
  have h1s : 0 < Su 6 2 → 1 ≤ Su 6 3 * Su 6 2 := fun y => by have := Int.mul_pos (show 0 < Su 6 3 by omega) y; omega
  have hsx : Su 6 3 * Su 6 2 ≤ 36 := by have := Int.mul_le_mul hR.2 (show Su 6 2 ≤ 6 by omega) (by omega) (by omega); omega
  refine lv_aload_n hx hb (pc := 0) dX5_init_0 rfl (lv_at hl 0 rfl) ?_
  refine lv_aload_n hx hb (pc := 1) dX5_init_1 rfl (lv_at hl 1 rfl) ?_
  refine L_putAF hC hX hL in_X5 tyX5 tyX5_ok nmX5 (ci := 5) rfl (pc := 2) 200 hk0 8 (by decide) q445 rfl rfl hnm rfl rfl rfl (f := uI (zA S 200) 8 (some (zB S 0))) (show 8 < 9 by decide) rfl dX5_init_2 (fun g H locs hX hL => ?_)
  refine lv_aload_n hx hb (pc := 5) dX5_init_5 rfl (lv_at hl 0 rfl) ?_
  refine j_objInit hC (pc := 6) q355 hl.1 (Nat.le_of_ble_eq_true rfl) (Nat.le_of_ble_eq_true rfl) dX5_init_6 ?_
  refine lv_aload_n hx hb (pc := 9) dX5_init_9 rfl (lv_at hl 0 rfl) ?_
  refine j_lconst hC (pc := 10) (w := 1) dX5_init_10 rfl ?_
  refine L_put hC hX hL in_X5 tyX5 tyX5_ok nmX5 (ci := 5) rfl (pc := 11) 200 hk0 2 (by decide) q433 rfl rfl rfl rfl (f := uI (Z 200) 2 1) (show 2 < 9 by decide) rfl dX5_init_11 (fun g H locs hX hL => ?_)
  refine lv_aload_n hx hb (pc := 14) dX5_init_14 rfl (lv_at hl 0 rfl) ?_
  refine j_iconst hC (pc := 15) dX5_init_15 ?_
  refine L_newL hC hX hL (pc := 16) 213 (k := 3) rfl (by decide) (Nat.le_of_ble_eq_true rfl) (Nat.le_of_ble_eq_true rfl) dX5_init_16 (fun g H hX hL => ?_)
  refine L_putAF hC hX hL in_X5 tyX5 tyX5_ok nmX5 (ci := 5) rfl (pc := 18) 200 hk0 3 (by decide) q435 rfl rfl hnm rfl rfl rfl (f := uI (uI (zA S 200) 8 (some (zB S 0))) 3 (some (n))) (show 3 < 9 by decide) rfl dX5_init_18 (fun g H locs hX hL => ?_)
  refine lv_aload_n hx hb (pc := 21) dX5_init_21 rfl (lv_at hl 0 rfl) ?_
  refine j_bipush hC (pc := 22) dX5_init_22 (by decide) ?_
  refine L_newL hC hX hL (pc := 24) 214 (k := 7) rfl (by decide) (Nat.le_of_ble_eq_true rfl) (Nat.le_of_ble_eq_true rfl) dX5_init_24 (fun g H hX hL => ?_)
  refine L_putAF hC hX hL in_X5 tyX5 tyX5_ok nmX5 (ci := 5) rfl (pc := 26) 200 hk0 4 (by decide) q437 rfl rfl hnm rfl rfl rfl (f := uI (uI (uI (zA S 200) 8 (some (zB S 0))) 3 (some (n))) 4 (some (n + 1))) (show 4 < 9 by decide) rfl dX5_init_26 (fun g H locs hX hL => ?_)
  refine lv_aload_n hx hb (pc := 29) dX5_init_29 rfl (lv_at hl 0 rfl) ?_
  refine lv_aload_n hx hb (pc := 30) dX5_init_30 rfl (lv_at hl 2 rfl) ?_
  refine L_putAF hC hX hL in_X5 tyX5 tyX5_ok nmX5 (ci := 5) rfl (pc := 31) 200 hk0 0 (by decide) q431 rfl rfl hnm rfl rfl rfl (f := uI (uI (uI (uI (zA S 200) 8 (some (zB S 0))) 3 (some (n))) 4 (some (n + 1))) 0 (some (zB S 201))) (show 0 < 9 by decide) rfl dX5_init_31 (fun g H locs hX hL => ?_)
  refine lv_aload_n hx hb (pc := 34) dX5_init_34 rfl (lv_at hl 0 rfl) ?_
  refine lv_iload_n hx hb (pc := 35) dX5_init_35 rfl (lv_at hl 3 rfl) ?_
  refine j_if_eq hC (pc := 36) 50 dX5_init_36 (by decide) (by omega) (fun c1 => ?_) (fun c1 => ?_)
  · skip
    refine lv_null hx hb (pc := 50) dX5_init_50 ?_
    refine L_putAF hC hX hL in_X5 tyX5 tyX5_ok nmX5 (ci := 5) rfl (pc := 51) 200 hk0 5 (by decide) q439 rfl rfl hnm rfl rfl rfl (f := uI (uI (uI (uI (uI (zA S 200) 8 (some (zB S 0))) 3 (some (n))) 4 (some (n + 1))) 0 (some (zB S 201))) 5 none) (show 5 < 9 by decide) rfl dX5_init_51 (fun g H locs hX hL => ?_)
    refine lv_aload_n hx hb (pc := 54) dX5_init_54 rfl (lv_at hl 0 rfl) ?_
    refine lv_aload_n hx hb (pc := 55) dX5_init_55 rfl (lv_at hl 1 rfl) ?_
    refine L_getN hC hX hL in_X0 (ci := 0) rfl (pc := 56) 0 hT.2.2.1 3 (by decide) q151 rfl (v := .int (iI (Z 0 3))) rfl dX5_init_56 ?_
    refine lv_aload_n hx hb (pc := 59) dX5_init_59 rfl (lv_at hl 2 rfl) ?_
    refine L_getN hC hX hL in_X6 (ci := 6) rfl (pc := 60) 201 (hf.sh.k 201 rfl) 0 (by decide) q285 rfl (v := .int (iI (Z 201 0))) rfl dX5_init_60 ?_
    refine j_imul hC (pc := 63) dX5_init_63 ?_
    refine L_putF hC hX hL in_X5 tyX5 tyX5_ok nmX5 (ci := 5) rfl (pc := 64) 200 hk0 1 (by decide) q432 rfl rfl hnm rfl rfl rfl (f := uI (uI (Z 200) 2 1) 1 ((Z 0 3) * (Z 201 0))) (show 1 < 9 by decide) rfl dX5_init_64 (fun g H locs hX hL => ?_)
    refine lv_aload_n hx hb (pc := 67) dX5_init_67 rfl (lv_at hl 0 rfl) ?_
    refine lv_aload_n hx hb (pc := 68) dX5_init_68 rfl (lv_at hl 0 rfl) ?_
    refine L_get hC hX hL in_X5 (ci := 5) rfl (pc := 69) 200 hk0 1 (by decide) q432 rfl (v := .int (iI ((uI (uI (Z 200) 2 1) 1 ((Z 0 3) * (Z 201 0))) 1))) rfl dX5_init_69 ?_
    refine j_eqi (b := (Z 0 3) * (Z 201 0)) (by rfl) ?_
    refine j_bipush hC (pc := 72) dX5_init_72 (by decide) ?_
    refine j_icmp_le hC (pc := 74) 81 dX5_init_74 (by decide) (by omega) (fun c2 => ?_) (fun c2 => ?_)
    · skip
      refine j_iconst hC (pc := 81) dX5_init_81 ?_
      refine L_put hC hX hL in_X5 tyX5 tyX5_ok nmX5 (ci := 5) rfl (pc := 82) 200 hk0 7 (by decide) q443 rfl rfl (nar_z (by first | exact orF_01 _ _ | omega)) (fit_z (by first | exact orF_01 _ _ | omega)) (f := uI (uI (uI (Z 200) 2 1) 1 ((Z 0 3) * (Z 201 0))) 7 0) (show 7 < 9 by decide) rfl dX5_init_82 (fun g H locs hX hL => ?_)
      refine lv_aload_n hx hb (pc := 85) dX5_init_85 rfl (lv_at hl 0 rfl) ?_
      refine L_get hC hX hL in_X5 (ci := 5) rfl (pc := 86) 200 hk0 7 (by decide) q443 rfl (v := .int (iI ((uI (uI (uI (Z 200) 2 1) 1 ((Z 0 3) * (Z 201 0))) 7 0) 7))) rfl dX5_init_86 ?_
      refine j_eqi (b := 0) (by rfl) ?_
      refine j_if_ne hC (pc := 89) 96 dX5_init_89 (by decide) (by omega) (fun c3 => ?_) (fun c3 => ?_)
      · skip
        exact absurd rfl c3
      · skip
        refine lv_aload_n hx hb (pc := 92) dX5_init_92 rfl (lv_at hl 0 rfl) ?_
        have hok := oI_ok hL (q := 0) (h := h) (m := Z 201 0) hf hT (((((((sm.rf.uA 200 _ (by decide)).uN 213 _ _ _ (by decide)).uA 200 _ (by decide)).uN 214 _ _ _ (by decide)).uA 200 _ (by decide)).uA 200 _ (by decide)).uA 200 _ (by decide)) (((((ch.rf.up 200 _ (by decide)).up 213 _ (by decide)).up 214 _ (by decide)).up 200 _ (by decide)).up 200 _ (by decide)) (fun k hk => by simp at hk; rcases hk with rfl | rfl | rfl; exact ⟨hk0, fun z => absurd z (by decide)⟩; exact ⟨rfl, fun _ => rfl⟩; exact ⟨rfl, fun _ => rfl⟩) ⟨rfl, rfl, rfl, rfl⟩ (Or.inl ⟨rfl, rfl⟩) ⟨rfl, rfl, fun z => absurd z (by decide)⟩ hf.n.2
        have h22 : Z 0 3 * Z 201 0 ≤ 22 := by omega
        have h22s : Su 6 3 * Su 6 2 ≤ 22 := by omega
        refine j_callv (rest := []) hX (va_runV hC.fix (o_work D T N l hL _ 0 h Su N5 N9 hok.1 ((hst.ch (show ch Z _ [200, 213, 214, 215, 216, 217, 218, 219, 220, 221] from (((((ch.rf.up 200 _ (by decide)).up 213 _ (by decide)).up 214 _ (by decide)).up 200 _ (by decide)).up 200 _ (by decide))) (by decide))) hSu (tZ5.kp hN5 (show ch Z _ [200, 213, 214, 215, 216, 217, 218, 219, 220, 221] from (((((ch.rf.up 200 _ (by decide)).up 213 _ (by decide)).up 214 _ (by decide)).up 200 _ (by decide)).up 200 _ (by decide))) (by decide)) (tZ9.kp hN9 (show ch Z _ [200, 213, 214, 215, 216, 217, 218, 219, 220, 221] from (((((ch.rf.up 200 _ (by decide)).up 213 _ (by decide)).up 214 _ (by decide)).up 200 _ (by decide)).up 200 _ (by decide))) (by decide)) hcs hok.2 ⟨h0s, h22, e63⟩ hR rfl h6 rfl h51 (fun y => ⟨hmp y, by show 1 ≤ Z 0 3 * Z 201 0; rw [e63]; exact h1s (hmp y)⟩)) (cwV 0 hC.ts (lw_V q358 q360 qs3 q48 q361) rfl rfl rfl (by decide +kernel) ⟨Nat.le_of_ble_eq_true rfl, Nat.le_of_ble_eq_true rfl⟩) (j_preV hC hX (hL.ob 200 hk0) (ci := 5) (r := (RX5, TX5, 9)) rfl _) rfl rfl hl.1 rfl (Nat.le_of_ble_eq_true rfl) dX5_init_93 ⟨(Nat.le_of_ble_eq_true rfl), (Nat.le_of_ble_eq_true rfl)⟩) (fun g m5 H locs hp hle hX => ?_)
        obtain ⟨S6, Z6, hL, hp⟩ := hp
        subst hQ
        exact j_vret hC (pc := 96) hX hr hlk (Nat.le_of_ble_eq_true rfl) (Nat.le_of_ble_eq_true rfl) dX5_init_96 ⟨_, _, hL, (oR_k (((((((sm.rf.uA 200 _ (by decide)).uN 213 _ _ _ (by decide)).uA 200 _ (by decide)).uN 214 _ _ _ (by decide)).uA 200 _ (by decide)).uA 200 _ (by decide)).uA 200 _ (by decide)) (((((ch.rf.up 200 _ (by decide)).up 213 _ (by decide)).up 214 _ (by decide)).up 200 _ (by decide)).up 200 _ (by decide)) hT ⟨⟨N5, hN5⟩, ⟨N9, hN9⟩⟩ rfl hok.1 e63 h22s hp)⟩
    · skip
      refine j_iconst hC (pc := 77) dX5_init_77 ?_
      refine j_goto hC (pc := 78) 82 dX5_init_78 (by decide) ?_
      refine L_put hC hX hL in_X5 tyX5 tyX5_ok nmX5 (ci := 5) rfl (pc := 82) 200 hk0 7 (by decide) q443 rfl rfl (nar_z (by first | exact orF_01 _ _ | omega)) (fit_z (by first | exact orF_01 _ _ | omega)) (f := uI (uI (uI (Z 200) 2 1) 1 ((Z 0 3) * (Z 201 0))) 7 1) (show 7 < 9 by decide) rfl dX5_init_82 (fun g H locs hX hL => ?_)
      refine lv_aload_n hx hb (pc := 85) dX5_init_85 rfl (lv_at hl 0 rfl) ?_
      refine L_get hC hX hL in_X5 (ci := 5) rfl (pc := 86) 200 hk0 7 (by decide) q443 rfl (v := .int (iI ((uI (uI (uI (Z 200) 2 1) 1 ((Z 0 3) * (Z 201 0))) 7 1) 7))) rfl dX5_init_86 ?_
      refine j_eqi (b := 1) (by rfl) ?_
      refine j_if_ne hC (pc := 89) 96 dX5_init_89 (by decide) (by omega) (fun c7 => ?_) (fun c7 => ?_)
      · skip
        subst hQ
        exact j_vret hC (pc := 96) hX hr hlk (Nat.le_of_ble_eq_true rfl) (Nat.le_of_ble_eq_true rfl) dX5_init_96 ⟨_, _, hL, (oR_w (((((((sm.rf.uA 200 _ (by decide)).uN 213 _ _ _ (by decide)).uA 200 _ (by decide)).uN 214 _ _ _ (by decide)).uA 200 _ (by decide)).uA 200 _ (by decide)).uA 200 _ (by decide)) (((((ch.rf.up 200 _ (by decide)).up 213 _ (by decide)).up 214 _ (by decide)).up 200 _ (by decide)).up 200 _ (by decide)) hT ⟨⟨N5, hN5⟩, ⟨N9, hN9⟩⟩ rfl (oI_ok hL (q := 0) (h := h) (m := Z 201 0) hf hT (((((((sm.rf.uA 200 _ (by decide)).uN 213 _ _ _ (by decide)).uA 200 _ (by decide)).uN 214 _ _ _ (by decide)).uA 200 _ (by decide)).uA 200 _ (by decide)).uA 200 _ (by decide)) (((((ch.rf.up 200 _ (by decide)).up 213 _ (by decide)).up 214 _ (by decide)).up 200 _ (by decide)).up 200 _ (by decide)) (fun k hk => by simp at hk; rcases hk with rfl | rfl | rfl; exact ⟨hk0, fun z => absurd z (by decide)⟩; exact ⟨rfl, fun _ => rfl⟩; exact ⟨rfl, fun _ => rfl⟩) ⟨rfl, rfl, rfl, rfl⟩ (Or.inl ⟨rfl, rfl⟩) ⟨rfl, rfl, fun z => absurd z (by decide)⟩ hf.n.2).1 e63 ⟨by omega, rfl⟩)⟩
      · skip
        exact absurd c7 (by decide)
  · skip
    exact absurd c1 (by decide)

set_option maxHeartbeats 8000000 in
set_option maxRecDepth 100000 in
theorem o_init1 (D : va_G) (T N : Nat → Nat) (l : Launch) {g0 : GH} {S : LbS} {Z : Nat → Int → Int} (hL : lR T g0 S Z) (n : Nat) (h : Int) (Su : Int → Int → Int) (N5 N9 : List (Int × Int)) (hT : xT S) (hf : fS S Z) (hk0 : zK S 200 = 25) (hst : stR h Su Z) (hSu : okSu Su) (hN5 : tZ 5 Z N5) (hN9 : tZ 9 Z N9) (hcs : csR h (Z 201 0) (Su 1) (U0 Su) (Z 210) (Z 211)) (hR : 1 ≤ Su 6 3 ∧ Su 6 3 ≤ 6) (h6 : Z 200 6 = 0) (h51 : -1 ≤ Z 0 5 ∧ Z 0 5 ≤ 1) (hmp : winF (U0 Su) = 2 → 0 < Su 6 2) : Met l yX5_init (ws_ yX5_init cX5_init 4 none) ({ frames := 6, cells := 9, slots := 268, locals := 142 } : Room) (gPc D T N [.ref (zB S 200), .ref (zB S 0), .ref (zB S 201), .int (iI (1))] g0 n) (gQv D g0 n (fun g' n' => ∃ S' Z', lR T g' S' Z' ∧ oR 1 h Su S Z S' Z')) 9 268 (gA g0 n) := by
  refine j_start (by decide) (Nat.le_of_ble_eq_true rfl) ?_
  intro p e s mi args below meth c hC hr hlk hnm hX ls hl
  have hC : Ct D T N (gA g0 n) p s mi args c cX5_init RX5 4 := hC
  have hx := hC.x
  have hb := hC.b
  generalize hQ : MQ below _ args s 9 268 (gA g0 n) = Q
  have hl : lv_has ls 4 [(0, .ref (zB S 200)), (1, .ref (zB S 0)), (2, .ref (zB S 201)), (3, .int (iI (1)))] := hl
  have e63 : Z 0 3 * Z 201 0 = Su 6 3 * Su 6 2 := by rw [hst.n.1, hst.n.2.2.2]
  have hn6 := hf.n
  have em := hst.n.1
  have h0s : 0 ≤ Z 0 3 * Z 201 0 := by rw [e63]; exact Int.mul_nonneg (by omega) (by omega)
  have h1s : 0 < Su 6 2 → 1 ≤ Su 6 3 * Su 6 2 := fun y => by have := Int.mul_pos (show 0 < Su 6 3 by omega) y; omega
  have hsx : Su 6 3 * Su 6 2 ≤ 36 := by have := Int.mul_le_mul hR.2 (show Su 6 2 ≤ 6 by omega) (by omega) (by omega); omega
  refine lv_aload_n hx hb (pc := 0) dX5_init_0 rfl (lv_at hl 0 rfl) ?_
  refine lv_aload_n hx hb (pc := 1) dX5_init_1 rfl (lv_at hl 1 rfl) ?_
  refine L_putAF hC hX hL in_X5 tyX5 tyX5_ok nmX5 (ci := 5) rfl (pc := 2) 200 hk0 8 (by decide) q445 rfl rfl hnm rfl rfl rfl (f := uI (zA S 200) 8 (some (zB S 0))) (show 8 < 9 by decide) rfl dX5_init_2 (fun g H locs hX hL => ?_)
  refine lv_aload_n hx hb (pc := 5) dX5_init_5 rfl (lv_at hl 0 rfl) ?_
  refine j_objInit hC (pc := 6) q355 hl.1 (Nat.le_of_ble_eq_true rfl) (Nat.le_of_ble_eq_true rfl) dX5_init_6 ?_
  refine lv_aload_n hx hb (pc := 9) dX5_init_9 rfl (lv_at hl 0 rfl) ?_
  refine j_lconst hC (pc := 10) (w := 1) dX5_init_10 rfl ?_
  refine L_put hC hX hL in_X5 tyX5 tyX5_ok nmX5 (ci := 5) rfl (pc := 11) 200 hk0 2 (by decide) q433 rfl rfl rfl rfl (f := uI (Z 200) 2 1) (show 2 < 9 by decide) rfl dX5_init_11 (fun g H locs hX hL => ?_)
  refine lv_aload_n hx hb (pc := 14) dX5_init_14 rfl (lv_at hl 0 rfl) ?_
  refine j_iconst hC (pc := 15) dX5_init_15 ?_
  refine L_newL hC hX hL (pc := 16) 213 (k := 3) rfl (by decide) (Nat.le_of_ble_eq_true rfl) (Nat.le_of_ble_eq_true rfl) dX5_init_16 (fun g H hX hL => ?_)
  refine L_putAF hC hX hL in_X5 tyX5 tyX5_ok nmX5 (ci := 5) rfl (pc := 18) 200 hk0 3 (by decide) q435 rfl rfl hnm rfl rfl rfl (f := uI (uI (zA S 200) 8 (some (zB S 0))) 3 (some (n))) (show 3 < 9 by decide) rfl dX5_init_18 (fun g H locs hX hL => ?_)
  refine lv_aload_n hx hb (pc := 21) dX5_init_21 rfl (lv_at hl 0 rfl) ?_
  refine j_bipush hC (pc := 22) dX5_init_22 (by decide) ?_
  refine L_newL hC hX hL (pc := 24) 214 (k := 7) rfl (by decide) (Nat.le_of_ble_eq_true rfl) (Nat.le_of_ble_eq_true rfl) dX5_init_24 (fun g H hX hL => ?_)
  refine L_putAF hC hX hL in_X5 tyX5 tyX5_ok nmX5 (ci := 5) rfl (pc := 26) 200 hk0 4 (by decide) q437 rfl rfl hnm rfl rfl rfl (f := uI (uI (uI (zA S 200) 8 (some (zB S 0))) 3 (some (n))) 4 (some (n + 1))) (show 4 < 9 by decide) rfl dX5_init_26 (fun g H locs hX hL => ?_)
  refine lv_aload_n hx hb (pc := 29) dX5_init_29 rfl (lv_at hl 0 rfl) ?_
  refine lv_aload_n hx hb (pc := 30) dX5_init_30 rfl (lv_at hl 2 rfl) ?_
  refine L_putAF hC hX hL in_X5 tyX5 tyX5_ok nmX5 (ci := 5) rfl (pc := 31) 200 hk0 0 (by decide) q431 rfl rfl hnm rfl rfl rfl (f := uI (uI (uI (uI (zA S 200) 8 (some (zB S 0))) 3 (some (n))) 4 (some (n + 1))) 0 (some (zB S 201))) (show 0 < 9 by decide) rfl dX5_init_31 (fun g H locs hX hL => ?_)
  refine lv_aload_n hx hb (pc := 34) dX5_init_34 rfl (lv_at hl 0 rfl) ?_
  refine lv_iload_n hx hb (pc := 35) dX5_init_35 rfl (lv_at hl 3 rfl) ?_
  refine j_if_eq hC (pc := 36) 50 dX5_init_36 (by decide) (by omega) (fun c1 => ?_) (fun c1 => ?_)
  · skip
    exact absurd c1 (by decide)
  · skip
    refine j_bipush hC (pc := 39) dX5_init_39 (by decide) ?_
    refine j_bipush hC (pc := 41) dX5_init_41 (by decide) ?_
    refine L_newM hC hX hL (Nat.le_of_ble_eq_true rfl) (Nat.le_of_ble_eq_true rfl) dX5_init_43 (fun g H hX hL => ?_)
    unfold uM zM at hL
    refine j_goto hC (pc := 47) 51 dX5_init_47 (by decide) ?_
    refine L_putAF hC hX hL in_X5 tyX5 tyX5_ok nmX5 (ci := 5) rfl (pc := 51) 200 hk0 5 (by decide) q439 rfl rfl hnm rfl rfl rfl (f := uI (uI (uI (uI (uI (zA S 200) 8 (some (zB S 0))) 3 (some (n))) 4 (some (n + 1))) 0 (some (zB S 201))) 5 (some (n + 2))) (show 5 < 9 by decide) rfl dX5_init_51 (fun g H locs hX hL => ?_)
    refine lv_aload_n hx hb (pc := 54) dX5_init_54 rfl (lv_at hl 0 rfl) ?_
    refine lv_aload_n hx hb (pc := 55) dX5_init_55 rfl (lv_at hl 1 rfl) ?_
    refine L_getN hC hX hL in_X0 (ci := 0) rfl (pc := 56) 0 hT.2.2.1 3 (by decide) q151 rfl (v := .int (iI (Z 0 3))) rfl dX5_init_56 ?_
    refine lv_aload_n hx hb (pc := 59) dX5_init_59 rfl (lv_at hl 2 rfl) ?_
    refine L_getN hC hX hL in_X6 (ci := 6) rfl (pc := 60) 201 (hf.sh.k 201 rfl) 0 (by decide) q285 rfl (v := .int (iI (Z 201 0))) rfl dX5_init_60 ?_
    refine j_imul hC (pc := 63) dX5_init_63 ?_
    refine L_putF hC hX hL in_X5 tyX5 tyX5_ok nmX5 (ci := 5) rfl (pc := 64) 200 hk0 1 (by decide) q432 rfl rfl hnm rfl rfl rfl (f := uI (uI (Z 200) 2 1) 1 ((Z 0 3) * (Z 201 0))) (show 1 < 9 by decide) rfl dX5_init_64 (fun g H locs hX hL => ?_)
    refine lv_aload_n hx hb (pc := 67) dX5_init_67 rfl (lv_at hl 0 rfl) ?_
    refine lv_aload_n hx hb (pc := 68) dX5_init_68 rfl (lv_at hl 0 rfl) ?_
    refine L_get hC hX hL in_X5 (ci := 5) rfl (pc := 69) 200 hk0 1 (by decide) q432 rfl (v := .int (iI ((uI (uI (Z 200) 2 1) 1 ((Z 0 3) * (Z 201 0))) 1))) rfl dX5_init_69 ?_
    refine j_eqi (b := (Z 0 3) * (Z 201 0)) (by rfl) ?_
    refine j_bipush hC (pc := 72) dX5_init_72 (by decide) ?_
    refine j_icmp_le hC (pc := 74) 81 dX5_init_74 (by decide) (by omega) (fun c2 => ?_) (fun c2 => ?_)
    · skip
      refine j_iconst hC (pc := 81) dX5_init_81 ?_
      refine L_put hC hX hL in_X5 tyX5 tyX5_ok nmX5 (ci := 5) rfl (pc := 82) 200 hk0 7 (by decide) q443 rfl rfl (nar_z (by first | exact orF_01 _ _ | omega)) (fit_z (by first | exact orF_01 _ _ | omega)) (f := uI (uI (uI (Z 200) 2 1) 1 ((Z 0 3) * (Z 201 0))) 7 0) (show 7 < 9 by decide) rfl dX5_init_82 (fun g H locs hX hL => ?_)
      refine lv_aload_n hx hb (pc := 85) dX5_init_85 rfl (lv_at hl 0 rfl) ?_
      refine L_get hC hX hL in_X5 (ci := 5) rfl (pc := 86) 200 hk0 7 (by decide) q443 rfl (v := .int (iI ((uI (uI (uI (Z 200) 2 1) 1 ((Z 0 3) * (Z 201 0))) 7 0) 7))) rfl dX5_init_86 ?_
      refine j_eqi (b := 0) (by rfl) ?_
      refine j_if_ne hC (pc := 89) 96 dX5_init_89 (by decide) (by omega) (fun c3 => ?_) (fun c3 => ?_)
      · skip
        exact absurd rfl c3
      · skip
        refine lv_aload_n hx hb (pc := 92) dX5_init_92 rfl (lv_at hl 0 rfl) ?_
        have hok := oI_ok hL (q := 1) (h := h) (m := Z 201 0) hf hT (((((((((((((((sm.rf.uA 200 _ (by decide)).uN 213 _ _ _ (by decide)).uA 200 _ (by decide)).uN 214 _ _ _ (by decide)).uA 200 _ (by decide)).uA 200 _ (by decide)).uN 215 _ _ _ (by decide)).uN 216 _ _ _ (by decide)).uN 217 _ _ _ (by decide)).uN 218 _ _ _ (by decide)).uN 219 _ _ _ (by decide)).uN 220 _ _ _ (by decide)).uN 221 _ _ _ (by decide)).uA 215 _ (by decide)).uA 200 _ (by decide)) ((((((((((((ch.rf.up 200 _ (by decide)).up 213 _ (by decide)).up 214 _ (by decide)).up 215 _ (by decide)).up 216 _ (by decide)).up 217 _ (by decide)).up 218 _ (by decide)).up 219 _ (by decide)).up 220 _ (by decide)).up 221 _ (by decide)).up 200 _ (by decide)).up 200 _ (by decide)) (fun k hk => by simp at hk; rcases hk with rfl | rfl | rfl; exact ⟨hk0, fun z => absurd z (by decide)⟩; exact ⟨rfl, fun _ => rfl⟩; exact ⟨rfl, fun _ => rfl⟩) ⟨rfl, rfl, rfl, rfl⟩ (Or.inr ⟨rfl, rfl, (fun k hk => by simp at hk; rcases hk with rfl | rfl | rfl | rfl | rfl | rfl | rfl; exact ⟨rfl, fun _ => rfl⟩; exact ⟨rfl, fun _ => rfl⟩; exact ⟨rfl, fun _ => rfl⟩; exact ⟨rfl, fun _ => rfl⟩; exact ⟨rfl, fun _ => rfl⟩; exact ⟨rfl, fun _ => rfl⟩; exact ⟨rfl, fun _ => rfl⟩), fun k hk => by rcases (show k = 0 ∨ k = 1 ∨ k = 2 ∨ k = 3 ∨ k = 4 ∨ k = 5 by omega) with rfl | rfl | rfl | rfl | rfl | rfl <;> rfl⟩) ⟨rfl, rfl, fun _ => fun k hk => by rcases (show k = 0 ∨ k = 1 ∨ k = 2 ∨ k = 3 ∨ k = 4 ∨ k = 5 by omega) with rfl | rfl | rfl | rfl | rfl | rfl <;> rfl⟩ hf.n.2
        have h22 : Z 0 3 * Z 201 0 ≤ 22 := by omega
        have h22s : Su 6 3 * Su 6 2 ≤ 22 := by omega
        refine j_callv (rest := []) hX (va_runV hC.fix (o_work D T N l hL _ 1 h Su N5 N9 hok.1 ((hst.ch (show ch Z _ [200, 213, 214, 215, 216, 217, 218, 219, 220, 221] from ((((((((((((ch.rf.up 200 _ (by decide)).up 213 _ (by decide)).up 214 _ (by decide)).up 215 _ (by decide)).up 216 _ (by decide)).up 217 _ (by decide)).up 218 _ (by decide)).up 219 _ (by decide)).up 220 _ (by decide)).up 221 _ (by decide)).up 200 _ (by decide)).up 200 _ (by decide))) (by decide))) hSu (tZ5.kp hN5 (show ch Z _ [200, 213, 214, 215, 216, 217, 218, 219, 220, 221] from ((((((((((((ch.rf.up 200 _ (by decide)).up 213 _ (by decide)).up 214 _ (by decide)).up 215 _ (by decide)).up 216 _ (by decide)).up 217 _ (by decide)).up 218 _ (by decide)).up 219 _ (by decide)).up 220 _ (by decide)).up 221 _ (by decide)).up 200 _ (by decide)).up 200 _ (by decide))) (by decide)) (tZ9.kp hN9 (show ch Z _ [200, 213, 214, 215, 216, 217, 218, 219, 220, 221] from ((((((((((((ch.rf.up 200 _ (by decide)).up 213 _ (by decide)).up 214 _ (by decide)).up 215 _ (by decide)).up 216 _ (by decide)).up 217 _ (by decide)).up 218 _ (by decide)).up 219 _ (by decide)).up 220 _ (by decide)).up 221 _ (by decide)).up 200 _ (by decide)).up 200 _ (by decide))) (by decide)) hcs hok.2 ⟨h0s, h22, e63⟩ hR rfl h6 rfl h51 (fun y => ⟨hmp y, by show 1 ≤ Z 0 3 * Z 201 0; rw [e63]; exact h1s (hmp y)⟩)) (cwV 0 hC.ts (lw_V q358 q360 qs3 q48 q361) rfl rfl rfl (by decide +kernel) ⟨Nat.le_of_ble_eq_true rfl, Nat.le_of_ble_eq_true rfl⟩) (j_preV hC hX (hL.ob 200 hk0) (ci := 5) (r := (RX5, TX5, 9)) rfl _) rfl rfl hl.1 rfl (Nat.le_of_ble_eq_true rfl) dX5_init_93 ⟨(Nat.le_of_ble_eq_true rfl), (Nat.le_of_ble_eq_true rfl)⟩) (fun g m5 H locs hp hle hX => ?_)
        obtain ⟨S6, Z6, hL, hp⟩ := hp
        subst hQ
        exact j_vret hC (pc := 96) hX hr hlk (Nat.le_of_ble_eq_true rfl) (Nat.le_of_ble_eq_true rfl) dX5_init_96 ⟨_, _, hL, (oR_k (((((((((((((((sm.rf.uA 200 _ (by decide)).uN 213 _ _ _ (by decide)).uA 200 _ (by decide)).uN 214 _ _ _ (by decide)).uA 200 _ (by decide)).uA 200 _ (by decide)).uN 215 _ _ _ (by decide)).uN 216 _ _ _ (by decide)).uN 217 _ _ _ (by decide)).uN 218 _ _ _ (by decide)).uN 219 _ _ _ (by decide)).uN 220 _ _ _ (by decide)).uN 221 _ _ _ (by decide)).uA 215 _ (by decide)).uA 200 _ (by decide)) ((((((((((((ch.rf.up 200 _ (by decide)).up 213 _ (by decide)).up 214 _ (by decide)).up 215 _ (by decide)).up 216 _ (by decide)).up 217 _ (by decide)).up 218 _ (by decide)).up 219 _ (by decide)).up 220 _ (by decide)).up 221 _ (by decide)).up 200 _ (by decide)).up 200 _ (by decide)) hT ⟨⟨N5, hN5⟩, ⟨N9, hN9⟩⟩ rfl hok.1 e63 h22s hp)⟩
    · skip
      refine j_iconst hC (pc := 77) dX5_init_77 ?_
      refine j_goto hC (pc := 78) 82 dX5_init_78 (by decide) ?_
      refine L_put hC hX hL in_X5 tyX5 tyX5_ok nmX5 (ci := 5) rfl (pc := 82) 200 hk0 7 (by decide) q443 rfl rfl (nar_z (by first | exact orF_01 _ _ | omega)) (fit_z (by first | exact orF_01 _ _ | omega)) (f := uI (uI (uI (Z 200) 2 1) 1 ((Z 0 3) * (Z 201 0))) 7 1) (show 7 < 9 by decide) rfl dX5_init_82 (fun g H locs hX hL => ?_)
      refine lv_aload_n hx hb (pc := 85) dX5_init_85 rfl (lv_at hl 0 rfl) ?_
      refine L_get hC hX hL in_X5 (ci := 5) rfl (pc := 86) 200 hk0 7 (by decide) q443 rfl (v := .int (iI ((uI (uI (uI (Z 200) 2 1) 1 ((Z 0 3) * (Z 201 0))) 7 1) 7))) rfl dX5_init_86 ?_
      refine j_eqi (b := 1) (by rfl) ?_
      refine j_if_ne hC (pc := 89) 96 dX5_init_89 (by decide) (by omega) (fun c7 => ?_) (fun c7 => ?_)
      · skip
        subst hQ
        exact j_vret hC (pc := 96) hX hr hlk (Nat.le_of_ble_eq_true rfl) (Nat.le_of_ble_eq_true rfl) dX5_init_96 ⟨_, _, hL, (oR_w (((((((((((((((sm.rf.uA 200 _ (by decide)).uN 213 _ _ _ (by decide)).uA 200 _ (by decide)).uN 214 _ _ _ (by decide)).uA 200 _ (by decide)).uA 200 _ (by decide)).uN 215 _ _ _ (by decide)).uN 216 _ _ _ (by decide)).uN 217 _ _ _ (by decide)).uN 218 _ _ _ (by decide)).uN 219 _ _ _ (by decide)).uN 220 _ _ _ (by decide)).uN 221 _ _ _ (by decide)).uA 215 _ (by decide)).uA 200 _ (by decide)) ((((((((((((ch.rf.up 200 _ (by decide)).up 213 _ (by decide)).up 214 _ (by decide)).up 215 _ (by decide)).up 216 _ (by decide)).up 217 _ (by decide)).up 218 _ (by decide)).up 219 _ (by decide)).up 220 _ (by decide)).up 221 _ (by decide)).up 200 _ (by decide)).up 200 _ (by decide)) hT ⟨⟨N5, hN5⟩, ⟨N9, hN9⟩⟩ rfl (oI_ok hL (q := 1) (h := h) (m := Z 201 0) hf hT (((((((((((((((sm.rf.uA 200 _ (by decide)).uN 213 _ _ _ (by decide)).uA 200 _ (by decide)).uN 214 _ _ _ (by decide)).uA 200 _ (by decide)).uA 200 _ (by decide)).uN 215 _ _ _ (by decide)).uN 216 _ _ _ (by decide)).uN 217 _ _ _ (by decide)).uN 218 _ _ _ (by decide)).uN 219 _ _ _ (by decide)).uN 220 _ _ _ (by decide)).uN 221 _ _ _ (by decide)).uA 215 _ (by decide)).uA 200 _ (by decide)) ((((((((((((ch.rf.up 200 _ (by decide)).up 213 _ (by decide)).up 214 _ (by decide)).up 215 _ (by decide)).up 216 _ (by decide)).up 217 _ (by decide)).up 218 _ (by decide)).up 219 _ (by decide)).up 220 _ (by decide)).up 221 _ (by decide)).up 200 _ (by decide)).up 200 _ (by decide)) (fun k hk => by simp at hk; rcases hk with rfl | rfl | rfl; exact ⟨hk0, fun z => absurd z (by decide)⟩; exact ⟨rfl, fun _ => rfl⟩; exact ⟨rfl, fun _ => rfl⟩) ⟨rfl, rfl, rfl, rfl⟩ (Or.inr ⟨rfl, rfl, (fun k hk => by simp at hk; rcases hk with rfl | rfl | rfl | rfl | rfl | rfl | rfl; exact ⟨rfl, fun _ => rfl⟩; exact ⟨rfl, fun _ => rfl⟩; exact ⟨rfl, fun _ => rfl⟩; exact ⟨rfl, fun _ => rfl⟩; exact ⟨rfl, fun _ => rfl⟩; exact ⟨rfl, fun _ => rfl⟩; exact ⟨rfl, fun _ => rfl⟩), fun k hk => by rcases (show k = 0 ∨ k = 1 ∨ k = 2 ∨ k = 3 ∨ k = 4 ∨ k = 5 by omega) with rfl | rfl | rfl | rfl | rfl | rfl <;> rfl⟩) ⟨rfl, rfl, fun _ => fun k hk => by rcases (show k = 0 ∨ k = 1 ∨ k = 2 ∨ k = 3 ∨ k = 4 ∨ k = 5 by omega) with rfl | rfl | rfl | rfl | rfl | rfl <;> rfl⟩ hf.n.2).1 e63 ⟨by omega, rfl⟩)⟩
      · skip
        exact absurd c7 (by decide)
