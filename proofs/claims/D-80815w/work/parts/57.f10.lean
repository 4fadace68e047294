/-! FairFight: Odds made and asked -/
/-- new Odds stand: what they hold -/
def nO (q h : Int) (Su : Int → Int → Int) (sl : Int) (S : LbS) (Z : Nat → Int → Int) : Prop := oS q S Z ∧ (Z 201 0 = Su 6 2 ∧ hmOk h (Z 201 0)) ∧
  ((wideI Su sl = 1 ∧ Z 200 7 = 1) ∨ (wideI Su sl = 0 ∧ Z 200 7 = 0 ∧ Z 200 6 = widestF Su sl ∧ Z 200 2 = 6 ^ sl.toNat ∧ acF q h (Z 201 0) Z (resZ Su sl z3)))
theorem nO_of {q h : Int} {Su : Int → Int → Int} {S S1 S2 : LbS} {Z Z1 Z2 : Nat → Int → Int} {sl : Int} (hst : stR h Su Z1) (hs : sl = Su 6 3 * Su 6 2) (hk : xk S Z S1 Z1) (hp : oR q h Su S1 Z1 S2 Z2) : xk S Z S2 Z2 ∧ nO q h Su sl S2 Z2 := by
  obtain ⟨p1, -, p2, p3, p4, p5⟩ := hp
  have e1 : Z2 201 = Z1 201 := p3 201 (by decide)
  refine ⟨hk.tr p1, p2, ⟨by rw [e1]; exact hst.n.1, by rw [e1]; exact hst.m⟩, ?_⟩
  rw [hs]
  rcases p5 with ⟨a, b⟩ | ⟨a, b, -, d⟩
  · exact Or.inl ⟨by unfold wideI; rw [if_pos a], b⟩
  · rcases d with ⟨x, y⟩ | ⟨x, y, z, w⟩
    · exact Or.inl ⟨y, x⟩
    · exact Or.inr ⟨y, x, z, b, w⟩
theorem Su63 (F : Nat → Int) (V : Nat → Int → Int) (wh : Int → Int) (bo st : Int) : suS F V wh bo st 6 3 = F 3 := rfl

theorem dig_1 {x q : Int} : 10 * 0 + x * 10 / q = p10 x 1 / q ∧ x * 10 % q = p10 x 1 % q := by
  have e : p10 x 1 = x * 10 := by unfold p10; rw [Int.pow_succ, Int.pow_zero, Int.one_mul]
  rw [e]
  exact ⟨by omega, rfl⟩
theorem dig_r {x q : Int} {k : Nat} (hq : 0 < q) : 10 * (p10 x k / q) + (p10 x k % q) * 10 / q = p10 x (k + 1) / q ∧ (p10 x k % q) * 10 % q = p10 x (k + 1) % q := by
  rw [p10_s, Int.mul_comm (p10 x k % q) 10]
  exact dig_s hq
def dgI (ev q i c_ rs : Int) : Prop := (i = 0 ∧ rs = ev ∧ c_ = 0) ∨ (1 ≤ i ∧ rs = p10 ev i.toNat % q ∧ c_ = p10 ev i.toNat / q)
theorem dgI.nx {ev q i c_ rs : Int} (hq : 0 < q) (hi : 0 ≤ i) (h : dgI ev q i c_ rs) : dgI ev q (i + 1) (10 * c_ + rs * 10 / q) (rs * 10 % q) := by
  refine Or.inr ⟨by omega, ?_⟩
  rcases h with ⟨rfl, rfl, rfl⟩ | ⟨h1, rfl, rfl⟩
  · exact ⟨dig_1.2, dig_1.1⟩
  · rw [show (i + 1).toNat = i.toNat + 1 by omega]
    exact ⟨(dig_r hq).2, (dig_r hq).1⟩
theorem dgI.rg {ev q i c_ rs : Int} (hq : 0 < q) (hv : 0 ≤ ev ∧ ev ≤ q) (h : dgI ev q i c_ rs) : 0 ≤ rs ∧ rs ≤ q := by
  rcases h with ⟨-, rfl, -⟩ | ⟨-, rfl, -⟩
  · exact hv
  · have h1 := Int.emod_nonneg (p10 ev i.toNat) (show q ≠ 0 by omega)
    have h2 := Int.emod_lt_of_pos (p10 ev i.toNat) hq
    omega
theorem dgI.e {ev q c_ rs : Int} (h : dgI ev q 6 c_ rs) : c_ = ev * 1000000 / q := by
  rcases h with ⟨h, -⟩ | ⟨-, -, rfl⟩
  · omega
  · rfl

set_option maxHeartbeats 4000000 in
set_option maxRecDepth 100000 in
theorem o_chance (D : va_G) (T N : Nat → Nat) (l : Launch) {g0 : GH} {S : LbS} {Z : Nat → Int → Int} (hL : lR T g0 S Z) (n : Nat) (q : Int) (ho : oS q S Z) (h2 : 0 < Z 200 2 ∧ Z 200 2 ≤ 131621703842267136) (hw : 0 ≤ Z 213 0 ∧ Z 213 0 ≤ Z 200 2) : Met l yX5_chance (ws_ yX5_chance cX5_chance 5 (some .int)) ({ frames := 0, cells := 0, slots := 0, locals := 0 } : Room) (gPc D T N [.ref (zB S 200)] g0 n) (gQi D g0 n (fun r g' n' => n' = n ∧ ∃ Z', lR T g' S Z' ∧ Z' = Z ∧ r = Z 213 0 * 1000000 / Z 200 2)) 0 0 (gA g0 n) := by
  refine j_start (by decide) (Nat.le_of_ble_eq_true rfl) ?_
  intro p e s mi args below meth c hC hr hlk hnm hX ls hl
  have hC : Ct D T N (gA g0 n) p s mi args c cX5_chance RX5 5 := hC
  have hx := hC.x
  have hb := hC.b
  generalize hQ : MQ below _ args s 0 0 (gA g0 n) = Q
  have hl : lv_has ls 5 [(0, .ref (zB S 200))] := hl
  refine j_iconst hC (pc := 0) dX5_chance_0 ?_
  refine lv_istore_n (lv' := [(1, .int (iI (0))), (0, .ref (zB S 200))]) hx hb (pc := 1) dX5_chance_1 rfl hl (by decide) rfl (fun ls hl => ?_)
  refine lv_aload_n hx hb (pc := 2) dX5_chance_2 rfl (lv_at hl 1 rfl) ?_
  refine L_getr hC hX hL in_X5 (ci := 5) rfl (pc := 3) 200 (ho.o.k 200 rfl) 3 (by decide) q435 rfl (q := zA S 200 3) (b := zB S 213) ho.r.2.1 rfl dX5_chance_3 ?_
  refine j_iconst hC (pc := 6) dX5_chance_6 ?_
  refine L_lald hC hX hL (pc := 7) 213 (ho.o.k 213 rfl) (L := 3) (ho.o.n 213 rfl) (by decide) (by omega) (z := Z 213 0) rfl dX5_chance_7 ?_
  refine lv_lstore_n (lv' := [(2, .long (lI (Z 213 0))), (1, .int (iI (0))), (0, .ref (zB S 200))]) hx hb (pc := 8) dX5_chance_8 rfl hl (by decide) rfl (fun ls hl => ?_)
  refine j_iconst hC (pc := 9) dX5_chance_9 ?_
  refine lv_istore (lv' := [(4, .int (iI (0))), (2, .long (lI (Z 213 0))), (1, .int (iI (0))), (0, .ref (zB S 200))]) hx hb (pc := 10) dX5_chance_10 hl (by decide) rfl (fun ls hl => ?_)
  have L12 : ∀ (fu : Nat) (i : Int) (cq : Int) (rs : Int) (g : GH), 6 - i < (fu : Int) → (0 ≤ i ∧ i ≤ 6) → (dgI (Z 213 0) (Z 200 2) i cq rs) → ∀ (H : Heap) (locs : List Loc), Wd D (gA g0 n) s g n H locs → lR T g S Z → ∀ (ls : Array Slot), lv_has ls 5 [(4, .int (iI (i))), (2, .long (lI (rs))), (1, .int (iI (cq))), (0, .ref (zB S 200))] → W p l e ({ frames := 0, cells := 0, slots := 0, locals := 0 } : Room) s mi args below meth c H locs 0 0 Q (F0 mi 12 ls []) := by
    intro fu
    induction fu with
    | zero =>
      intro i cq rs g hfu hi hdg H locs hX hL ls hl
      exfalso
      omega
    | succ fu ih12 =>
      intro i cq rs g hfu hi hdg H locs hX hL ls hl
      have hrs := hdg.rg h2.1 hw
      refine lv_iload hx hb (pc := 12) dX5_chance_12 (lv_at hl 0 rfl) ?_
      refine j_bipush hC (pc := 14) dX5_chance_14 (by decide) ?_
      refine j_icmp_ge hC (pc := 16) 51 dX5_chance_16 (by decide) (by omega) (fun c1 => ?_) (fun c1 => ?_)
      · skip
        refine lv_iload_n hx hb (pc := 51) dX5_chance_51 rfl (lv_at hl 2 rfl) ?_
        subst hQ
        exact j_iret hC (pc := 52) hX hr hlk (Nat.le_of_ble_eq_true rfl) (Nat.le_of_ble_eq_true rfl) dX5_chance_52 ⟨rfl, _, hL, ⟨rfl, by rw [show i = 6 by omega] at hdg; exact hdg.e⟩⟩
      · skip
        refine lv_lload_n hx hb (pc := 19) dX5_chance_19 rfl (lv_at hl 1 rfl) ?_
        refine j_ldc2 hC (pc := 20) (z := 10) q485 dX5_chance_20 rfl ?_
        refine j_lmul hC (pc := 23) dX5_chance_23 ?_
        refine lv_lstore_n (lv' := [(2, .long (lI (rs * 10))), (4, .int (iI (i))), (1, .int (iI (cq))), (0, .ref (zB S 200))]) hx hb (pc := 24) dX5_chance_24 rfl hl (by decide) rfl (fun ls hl => ?_)
        refine j_bipush hC (pc := 25) dX5_chance_25 (by decide) ?_
        refine lv_iload_n hx hb (pc := 27) dX5_chance_27 rfl (lv_at hl 2 rfl) ?_
        refine j_imul hC (pc := 28) dX5_chance_28 ?_
        refine lv_lload_n hx hb (pc := 29) dX5_chance_29 rfl (lv_at hl 0 rfl) ?_
        refine lv_aload_n hx hb (pc := 30) dX5_chance_30 rfl (lv_at hl 3 rfl) ?_
        refine L_get hC hX hL in_X5 (ci := 5) rfl (pc := 31) 200 (ho.o.k 200 rfl) 2 (by decide) q433 rfl (v := .long (lI (Z 200 2))) rfl dX5_chance_31 ?_
        refine j_ldiv hC (pc := 34) dX5_chance_34 (by omega) ?_
        refine j_l2i hC (pc := 35) dX5_chance_35 ?_
        refine j_iadd hC (pc := 36) dX5_chance_36 ?_
        refine lv_istore_n (lv' := [(1, .int (iI ((10 * cq) + ((rs * 10) / (Z 200 2))))), (2, .long (lI (rs * 10))), (4, .int (iI (i))), (0, .ref (zB S 200))]) hx hb (pc := 37) dX5_chance_37 rfl hl (by decide) rfl (fun ls hl => ?_)
        refine lv_lload_n hx hb (pc := 38) dX5_chance_38 rfl (lv_at hl 1 rfl) ?_
        refine lv_aload_n hx hb (pc := 39) dX5_chance_39 rfl (lv_at hl 3 rfl) ?_
        refine L_get hC hX hL in_X5 (ci := 5) rfl (pc := 40) 200 (ho.o.k 200 rfl) 2 (by decide) q433 rfl (v := .long (lI (Z 200 2))) rfl dX5_chance_40 ?_
        refine j_lrem hC (pc := 43) dX5_chance_43 (by omega) ?_
        refine lv_lstore_n (lv' := [(2, .long (lI ((rs * 10) % (Z 200 2)))), (1, .int (iI ((10 * cq) + ((rs * 10) / (Z 200 2))))), (4, .int (iI (i))), (0, .ref (zB S 200))]) hx hb (pc := 44) dX5_chance_44 rfl hl (by decide) rfl (fun ls hl => ?_)
        refine j_iinc hC (pc := 45) (lv' := [(4, .int (iI (i + 1))), (2, .long (lI ((rs * 10) % (Z 200 2)))), (1, .int (iI ((10 * cq) + ((rs * 10) / (Z 200 2))))), (0, .ref (zB S 200))]) dX5_chance_45 hl (k := 2) rfl (by decide) rfl (fun ls hl => ?_)
        refine j_goto hC (pc := 48) 12 dX5_chance_48 (by decide) ?_
        exact ih12 (i + 1) ((10 * cq) + ((rs * 10) / (Z 200 2))) ((rs * 10) % (Z 200 2)) _ (by omega) (by omega) (hdg.nx h2.1 hi.1) _ _ hX hL ls (lv_sub hl [0, 1, 2, 3] rfl)
  exact L12 ((6 - 0 : Int).toNat + 1) 0 0 (Z 213 0) _ (by omega) (by omega) (Or.inl ⟨rfl, rfl, rfl⟩) _ _ hX hL ls (lv_sub hl [0, 1, 2, 3] rfl)
