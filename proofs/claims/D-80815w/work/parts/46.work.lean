/-! ALL TURNS of FairFight's odds, pure; its two tables change places -/
def swL (k : Nat) : Nat := if k = 5 then 9 else if k = 6 then 10 else if k = 7 then 11 else if k = 8 then 12 else if k = 9 then 5 else if k = 10 then 6 else if k = 11 then 7 else if k = 12 then 8 else k
theorem swL_inv (k : Nat) : swL (swL k) = k := by
  by_cases h : 5 ≤ k ∧ k ≤ 12
  · have : k = 5 ∨ k = 6 ∨ k = 7 ∨ k = 8 ∨ k = 9 ∨ k = 10 ∨ k = 11 ∨ k = 12 := by omega
    rcases this with rfl | rfl | rfl | rfl | rfl | rfl | rfl | rfl <;> rfl
  · have e : swL k = k := by
      unfold swL
      rw [if_neg (by omega), if_neg (by omega), if_neg (by omega), if_neg (by omega), if_neg (by omega), if_neg (by omega), if_neg (by omega), if_neg (by omega)]
    rw [e, e]
theorem swL_id {k : Nat} (h : k < 5 ∨ 12 < k) : swL k = k := by
  unfold swL
  rw [if_neg (by omega), if_neg (by omega), if_neg (by omega), if_neg (by omega), if_neg (by omega), if_neg (by omega), if_neg (by omega), if_neg (by omega)]
def swS (S : LbS) : LbS := uP (uA S 0 (uI (uI (zA S 0) 6 (some (zB S 9))) 7 (some (zB S 5)))) swL
def swZ (Z : Nat → Int → Int) : Nat → Int → Int := fun k => Z (swL k)
theorem lR.swp {T : Nat → Nat} {g : GH} {S : LbS} {Z : Nat → Int → Int} (h : lR T g (uA (uA S 0 (uI (zA S 0) 6 (some (zB S 9)))) 0 (uI (uI (zA S 0) 6 (some (zB S 9))) 7 (some (zB S 5)))) Z) : lR T g (swS S) (swZ Z) := by
  have e : uA (uA S 0 (uI (zA S 0) 6 (some (zB S 9)))) 0 (uI (uI (zA S 0) 6 (some (zB S 9))) 7 (some (zB S 5))) = uA S 0 (uI (uI (zA S 0) 6 (some (zB S 9))) 7 (some (zB S 5))) := by
    unfold uA
    congr 3
    funext j
    by_cases q : j = 0
    · subst q
      rw [va_up_self, va_up_self]
    · rw [va_up_ne _ _ q, va_up_ne _ _ q]
      exact va_up_ne _ _ q
  rw [e] at h
  exact h.pm swL_inv
/-- the same but where the tables stand -/
def swR (S S1 : LbS) : Prop := (∀ k, (k ∉ ([0, 5, 6, 7, 8, 9, 10, 11, 12] : List Nat)) → zB S1 k = zB S k ∧ zK S1 k = zK S k ∧ zN S1 k = zN S k ∧ zA S1 k = zA S k) ∧ zB S1 0 = zB S 0 ∧ ∀ j : Int, j ≠ 6 → j ≠ 7 → zA S1 0 j = zA S 0 j
theorem swR.rf {S : LbS} : swR S S := ⟨fun _ _ => ⟨rfl, rfl, rfl, rfl⟩, rfl, fun _ _ _ => rfl⟩
theorem swR.sm {S S1 : LbS} (h : swR S S1) : sm S S1 [0, 5, 6, 7, 8, 9, 10, 11, 12] := h.1
theorem swR.nx {S S1 : LbS} (h : swR S S1) : swR S (swS S1) := by
  refine ⟨fun k hk => ?_, h.2.1, fun j h6 h7 => ?_⟩
  · have hk' := hk
    simp at hk'
    have e : swL k = k := swL_id (by omega)
    have e0 : k ≠ 0 := by omega
    show zB S1 (swL k) = _ ∧ zK S1 (swL k) = _ ∧ zN S1 (swL k) = _ ∧ va_up (zA S1) 0 _ (swL k) = _
    rw [e, va_up_ne _ _ e0]
    exact h.1 k hk
  · have e : zA (swS S1) 0 = uI (uI (zA S1 0) 6 (some (zB S1 9))) 7 (some (zB S1 5)) := rfl
    rw [e, uI_n _ _ h7, uI_n _ _ h6]
    exact h.2.2 j h6 h7
theorem xT.nx {S : LbS} (h : xT S) : xT (swS S) := by
  obtain ⟨⟨a1, a2, a3, a4⟩, ⟨b1, b2, b3, b4⟩, c1, c2, c3⟩ := h
  refine ⟨⟨fun k hk => ?_, b2, b3, b4⟩, ⟨fun k hk => ?_, a2, a3, a4⟩, c1, ?_, ?_⟩
  · simp at hk
    rcases hk with rfl | rfl | rfl | rfl
    · exact b1 9 (by simp)
    · exact b1 10 (by simp)
    · exact b1 11 (by simp)
    · exact b1 12 (by simp)
  · simp at hk
    rcases hk with rfl | rfl | rfl | rfl
    · exact a1 5 (by simp)
    · exact a1 6 (by simp)
    · exact a1 7 (by simp)
    · exact a1 8 (by simp)
  · have e : zA (swS S) 0 = uI (uI (zA S 0) 6 (some (zB S 9))) 7 (some (zB S 5)) := rfl
    rw [e, uI_n _ _ (show (6 : Int) ≠ 7 by decide), uI_s]
    rfl
  · have e : zA (swS S) 0 = uI (uI (zA S 0) 6 (some (zB S 9))) 7 (some (zB S 5)) := rfl
    rw [e, uI_s]
    rfl
theorem oS.sw {q : Int} {S S1 : LbS} {Z : Nat → Int → Int} (h : oS q S Z) (hs : swR S S1) (hx : xT S1) : oS q S1 Z := by
  have m := hs.sm
  refine ⟨h.1.sm m (by decide), hx, h.2.2.1.sm m (by decide), ?_, ?_⟩
  · obtain ⟨r1, r2, r3, r4⟩ := h.r
    rw [(m 200 (by decide)).2.2.2, (m 201 (by decide)).1, (m 213 (by decide)).1, (m 214 (by decide)).1, hs.2.1]
    exact ⟨r1, r2, r3, r4⟩
  · rw [(m 200 (by decide)).2.2.2, (m 215 (by decide)).1, (m 215 (by decide)).2.2.2]
    rcases h.l with l | ⟨l1, l2, l3, l4⟩
    · exact Or.inl l
    · refine Or.inr ⟨l1, l2, l3.sm m (by decide), fun k hk => ?_⟩
      rw [(m (216 + k) (by simp; omega)).1]
      exact l4 k hk
/-! lengths grow -/
theorem absorb_len {rd rest : Int} {a : Acc} {x : Int × Int} : a.1.length ≤ (absorb rd rest a x).1.length := by
  unfold absorb
  split
  · exact Nat.le_refl _
  · exact insN_len a.1
theorem step_len {Su : Int → Int → Int} {k rd rest : Int} {a : Acc} {s : Int × Int} : a.1.length ≤ (stepS Su k rd rest a s).1.length := by
  have : ∀ (X : List (Int × Int)) (b : Acc), b.1.length ≤ (X.foldl (absorb rd rest) b).1.length := fun X => by
    induction X with
    | nil => exact fun _ => Nat.le_refl _
    | cons x X ih => exact fun b => Nat.le_trans absorb_len (ih _)
  exact this _ _
theorem slot_len {Su : Int → Int → Int} {k rd rest : Int} : ∀ (X : List (Int × Int)) (a : Acc), a.1.length ≤ (X.foldl (stepS Su k rd rest) a).1.length
  | [], _ => Nat.le_refl _
  | _ :: X, _ => Nat.le_trans step_len (slot_len X _)
theorem take_len {Su : Int → Int → Int} {k rd rest : Int} (n : Nat) (X : List (Int × Int)) (a : Acc) : ((X.take n).foldl (stepS Su k rd rest) a).1.length ≤ (X.foldl (stepS Su k rd rest) a).1.length := by
  have : X.foldl (stepS Su k rd rest) a = (X.drop n).foldl (stepS Su k rd rest) ((X.take n).foldl (stepS Su k rd rest) a) := by
    rw [← List.foldl_append, List.take_append_drop]
  rw [this]
  exact slot_len _ _
theorem wsm_take {X : List (Int × Int)} (h : posW X) (n : Nat) : 0 ≤ wsm (X.take n) ∧ wsm (X.take n) ≤ wsm X := by
  have h1 : posW (X.take n) := fun x hx => h x (List.mem_of_mem_take hx)
  have h2 : posW (X.drop n) := fun x hx => h x (List.mem_of_mem_drop hx)
  have e := wsm_app (X.take n) (X.drop n)
  rw [List.take_append_drop] at e
  have := h1.sum.1
  have := h2.sum.1
  omega
theorem wsm_s {X : List (Int × Int)} {i : Int} {s : Int × Int} (hi : 0 ≤ i) (h : X[i.toNat]? = some s) : wsm (X.take (i + 1).toNat) = wsm (X.take i.toNat) + s.2 := by
  rw [take_s hi h, wsm_app]
  show _ + (s.2 + 0) = _
  omega
/-- the ways at a slot, summed -/
theorem evo_w {Su : Int → Int → Int} (hS : okSu Su) (hm : 0 < Su 6 2) {sl : Int} {t : Nat} (ht : (t : Int) < sl) (hsl : sl ≤ 22) : posW (evo Su sl z3 t).1 ∧ 0 ≤ wsm (evo Su sl z3 t).1 ∧ 6 * wsm (evo Su sl z3 t).1 ≤ 131621703842267136 := by
  obtain ⟨⟨h1, h2⟩, h3⟩ := evo_sum hS hm (sl := sl) t (by omega)
  have h4 := h1.sum.1
  refine ⟨h1, h4, ?_⟩
  unfold Mw at h3
  have h5 : 0 ≤ ends3 (evo Su sl z3 t).2 := by unfold nn3 at h2; unfold ends3; omega
  have h6 := pow6_22 hsl
  have h7 : (6 : Int) ^ (sl - t).toNat = 6 * 6 ^ (sl - t - 1).toNat := pow6_s (by omega)
  have h8 := pow6 (sl - t - 1).toNat
  rw [h7] at h3
  generalize (6 : Int) ^ (sl - t - 1).toNat = y at h3 h8
  generalize wsm (evo Su sl z3 t).1 = w at h3 h4 ⊢
  have h9 : 6 * w ≤ w * (6 * y) := by
    have : w * (6 * y) = 6 * w * y := by rw [← Int.mul_assoc, Int.mul_comm w 6]
    rw [this]
    have := Int.mul_le_mul_of_nonneg_left (show 1 ≤ y by omega) (show 0 ≤ 6 * w by omega)
    omega
  omega
/-! where the work stands at slot i -/
def wkE (q h : Int) (Su : Int → Int → Int) (sl : Int) (Z : Nat → Int → Int) : Prop := winF (U0 Su) < 2 ∧ Z 200 7 = 0 ∧ Z 200 6 = 0 ∧ tZ 5 Z [] ∧ tZ 9 Z [] ∧ acF q h (Z 201 0) Z (resZ Su sl z3)
def wkW (q h : Int) (Su : Int → Int → Int) (sl i : Int) (Z : Nat → Int → Int) : Prop := winF (U0 Su) = 2 ∧ Z 200 7 = 0 ∧ Z 200 6 = wdF Su sl i.toNat ∧ tZ 9 Z [] ∧ (∀ u : Nat, u < i.toNat → (u : Int) + 1 < sl → ¬ 400 < (evo Su sl z3 (u + 1)).1.length) ∧
  ((i < sl ∧ tZ 5 Z (mpC h (Z 201 0) (evo Su sl z3 i.toNat).1) ∧ acF q h (Z 201 0) Z (evo Su sl z3 i.toNat).2) ∨ (i = sl ∧ tZ 5 Z [] ∧ acF q h (Z 201 0) Z (resZ Su sl z3)))
def wkX (Su : Int → Int → Int) (sl : Int) (Z : Nat → Int → Int) : Prop := winF (U0 Su) = 2 ∧ Z 200 7 = 1 ∧ (∃ u : Nat, (u : Int) + 1 < sl ∧ 400 < (evo Su sl z3 (u + 1)).1.length) ∧ (∃ N, tZ 5 Z N) ∧ ∃ N, tZ 9 Z N
/-- .. within the slot, behind j rows of R0 -/
def wkI (q h : Int) (Su : Int → Int → Int) (sl i k d j : Int) (R0 : List (Int × Int)) (Z : Nat → Int → Int) : Prop :=
  (winF (U0 Su) < 2 ∧ R0 = [] ∧ Z 200 7 = 0 ∧ tZ 9 Z [] ∧ acF q h (Z 201 0) Z (resZ Su sl z3)) ∨
  (winF (U0 Su) = 2 ∧ R0 = (evo Su sl z3 i.toNat).1 ∧ roX (6 * wsm (R0.take j.toNat)) q h sl i Z ((R0.take j.toNat).foldl (stepS Su k d (6 ^ (sl - 1 - i).toNat)) ([], (evo Su sl z3 i.toNat).2)))
theorem wk_next {q h : Int} {Su : Int → Int → Int} {sl i k d j b : Int} {R0 : List (Int × Int)} {Z2 Z4 : Nat → Int → Int} (hi : 0 ≤ i ∧ i < sl) (hk : k = Su 5 (i % Su 6 2)) (hd : d = i / Su 6 2)
    (hin : wkI q h Su sl i k d j R0 Z2) (hj : 0 ≤ j ∧ ((R0.length : Int) ≤ j ∨ ¬ Z2 200 7 = 0)) (hnw : winF (U0 Su) = 2 → ∀ u : Nat, u < i.toNat → (u : Int) + 1 < sl → ¬ 400 < (evo Su sl z3 (u + 1)).1.length)
    (hw6 : (winF (U0 Su) < 2 ∧ Z2 200 6 = 0) ∨ (winF (U0 Su) = 2 ∧ Z2 200 6 = wdF Su sl (i.toNat + 1)))
    (c5 : ∀ N, tZ 9 Z2 N → tZ 5 Z4 N) (h94 : tZ 9 Z4 []) (h7 : Z4 200 7 = orF (Z2 200 7) b) (hb : (b = 1 ∧ 400 < Z2 9 3) ∨ (b = 0 ∧ Z2 9 3 ≤ 400)) (h6 : Z4 200 6 = Z2 200 6) (hac : ∀ z, acF q h (Z2 201 0) Z2 z → acF q h (Z4 201 0) Z4 z) (e201 : Z4 201 0 = Z2 201 0) :
    wkE q h Su sl Z4 ∨ wkW q h Su sl (i + 1) Z4 ∨ wkX Su sl Z4 := by
  have ei : ((i.toNat : Nat) : Int) = i := Int.toNat_of_nonneg hi.1
  have hi1 : (i + 1).toNat = i.toNat + 1 := by omega
  rcases hin with ⟨w1, w2, w3, w4, w5⟩ | ⟨w1, w2, N, z, n1, n2, n3, n4, n5⟩
  · left
    have hl := w4.len
    have hl0 : Z2 9 3 = 0 := by
      have := hl.2.2
      simp at this
      omega
    have hb0 : b = 0 := by omega
    refine ⟨w1, by rw [h7, w3, hb0]; rfl, by rw [h6]; omega, c5 _ w4, h94, hac _ w5⟩
  · right
    have hev : (evo Su sl z3 (i.toNat + 1)) = R0.foldl (stepS Su k d (6 ^ (sl - 1 - i).toNat)) ([], (evo Su sl z3 i.toNat).2) := by
      show slotA Su (Su 5 (((i.toNat : Nat) : Int) % Su 6 2)) (((i.toNat : Nat) : Int) / Su 6 2) (6 ^ (sl - 1 - ((i.toNat : Nat) : Int)).toNat) _ _ = _
      rw [ei, ← hk, ← hd, w2]
      rfl
    have hw6' : Z2 200 6 = wdF Su sl (i.toNat + 1) := by omega
    have full : Z2 200 7 = 0 → (R0.take j.toNat).foldl (stepS Su k d (6 ^ (sl - 1 - i).toNat)) ([], (evo Su sl z3 i.toNat).2) = evo Su sl z3 (i.toNat + 1) := fun y => by
      rw [hev, fold_all (by rcases hj.2 with x | x; exact x; exact absurd y x)]
    have hlen := n1.len
    rcases n5 with ⟨f1, f2, f3, f4⟩ | ⟨f1, f2, f3⟩ | ⟨f1, f2, f3, f4⟩
    · rw [full f2] at f3 f4
      have hl2 : ((evo Su sl z3 (i.toNat + 1)).1.length : Int) = Z2 9 3 := by rw [← hlen.2.2, f3, mpC_len]
      rcases hb with ⟨b1, b2⟩ | ⟨b1, b2⟩
      · right
        exact ⟨w1, by rw [h7, f2, b1]; rfl, ⟨i.toNat, by omega, by omega⟩, ⟨N, c5 _ n1⟩, ⟨[], h94⟩⟩
      · left
        refine ⟨w1, by rw [h7, f2, b1]; rfl, by rw [h6, hw6', hi1], h94, fun u hu hu2 => ?_, Or.inl ⟨f1, ?_, ?_⟩⟩
        · rcases Decidable.em (u = i.toNat) with y | y
          · rw [y]
            omega
          · exact hnw w1 u (by omega) hu2
        · rw [e201, hi1, ← f3]
          exact c5 _ n1
        · rw [hi1, ← f4]
          exact hac _ n2
    · right
      have := take_len (Su := Su) (k := k) (rd := d) (rest := 6 ^ (sl - 1 - i).toNat) j.toNat R0 ([], (evo Su sl z3 i.toNat).2)
      rw [← hev] at this
      refine ⟨w1, ?_, ⟨i.toNat, by omega, by omega⟩, ⟨N, c5 _ n1⟩, ⟨[], h94⟩⟩
      rw [h7, f2]
      unfold orF
      rw [if_pos (Or.inl rfl)]
    · left
      rw [full f2] at f4
      have hl0 : Z2 9 3 = 0 := by
        rw [← hlen.2.2, f3]
        rfl
      refine ⟨w1, by rw [h7, f2, show b = 0 by omega]; rfl, by rw [h6, hw6', hi1], h94, fun u hu hu2 => hnw w1 u (by omega) hu2, Or.inr ⟨f1, ?_, ?_⟩⟩
      · rw [f3] at n1
        exact c5 _ n1
      · unfold resZ
        rw [if_neg (by omega), show sl.toNat = i.toNat + 1 by omega, ← f4]
        exact hac _ n2
/-- the work's answer -/
def wkEnd (q h : Int) (Su : Int → Int → Int) (sl : Int) (Z : Nat → Int → Int) : Prop := ((∃ N, tZ 5 Z N) ∧ ∃ N, tZ 9 Z N) ∧
  ((Z 200 7 = 1 ∧ wideI Su sl = 1) ∨ (Z 200 7 = 0 ∧ wideI Su sl = 0 ∧ Z 200 6 = widestF Su sl ∧ acF q h (Z 201 0) Z (resZ Su sl z3)))
theorem wk_end {q h : Int} {Su : Int → Int → Int} {sl i : Int} {Z : Nat → Int → Int} (hi : 0 ≤ i ∧ i ≤ sl ∧ sl ≤ 22) (hw : wkE q h Su sl Z ∨ wkW q h Su sl i Z ∨ wkX Su sl Z) (he : sl ≤ i ∨ ¬ Z 200 7 = 0) : wkEnd q h Su sl Z := by
  have wi := wide_iff Su sl
  rcases hw with ⟨w1, w2, w3, w4, w5, w6⟩ | ⟨w1, w2, w3, w4, w5, w6⟩ | ⟨w1, w2, ⟨u, u1, u2⟩, w4⟩
  · refine ⟨⟨⟨[], w4⟩, ⟨[], w5⟩⟩, Or.inr ⟨w2, ?_, ?_, w6⟩⟩
    · rcases wi with ⟨x, y | y⟩ | ⟨x, -⟩
      · omega
      · omega
      · exact x
    · unfold widestF
      rw [if_pos w1, w3]
  · rcases w6 with ⟨f1, -⟩ | ⟨f1, f2, f3⟩
    · exfalso
      omega
    · refine ⟨⟨⟨[], f2⟩, ⟨[], w4⟩⟩, Or.inr ⟨w2, ?_, ?_, f3⟩⟩
      · rcases wi with ⟨x, y | ⟨-, t, t1, t2⟩⟩ | ⟨x, -⟩
        · omega
        · exact absurd t2 (w5 t (by omega) t1)
        · exact x
      · unfold widestF
        rw [if_neg (by omega), w3, f1]
  · refine ⟨w4, Or.inl ⟨w2, ?_⟩⟩
    rcases wi with ⟨x, -⟩ | ⟨-, x⟩
    · exact x
    · exact absurd (Or.inr ⟨w1, u, u1, u2⟩) x
theorem ag_ok {Su : Int → Int → Int} (hS : okSu Su) : okS (Su 1) (U0 Su) := fun k a b => ⟨(hS.1 k a b).2.1, by unfold U0; split <;> omega⟩
theorem wk_start {q h : Int} {Su : Int → Int → Int} {sl : Int} {Z Z' : Nat → Int → Int} (hS : okSu Su) (hm : hmOk h (Z 201 0)) (hw : winF (U0 Su) = 2 → 1 ≤ sl) (hsl : 0 ≤ sl) (hz1 : Z 200 1 = sl) (h7 : Z 200 7 = 0) (h6 : Z 200 6 = 0) (h5 : tZ 5 Z []) (h9 : tZ 9 Z []) (hac : acF q h (Z 201 0) Z z3)
    (hp : (winF (U0 Su) = 2 ∧ 0 < Z 200 1 → ch Z Z' [200, 5, 6, 7, 8] ∧ (∀ j : Int, j ≠ 7 → Z' 200 j = Z 200 j) ∧ ((Z' 200 7 = Z 200 7 ∧ tZ 5 Z' (insN [] (ckF h (Z 201 0) (Su 1) (U0 Su)) 1)) ∨ (Z' 200 7 = 1 ∧ tZ 5 Z' [] ∧ 400 < (insN [] (ckF h (Z 201 0) (Su 1) (U0 Su)) 1).length))) ∧ (¬ (winF (U0 Su) = 2 ∧ 0 < Z 200 1) → ch Z Z' [213, 214, 216, 217, 218, 219, 220, 221] ∧ acF q h (Z 201 0) Z' (cnt3 z3 (winF (U0 Su)) 0 (1 * 6 ^ (Z 200 1 - 0).toNat) (Su 1) (U0 Su)))) :
    (ch Z Z' [200, 5, 6, 7, 8, 213, 214, 216, 217, 218, 219, 220, 221] ∧ ∀ j : Int, j ≠ 7 → Z' 200 j = Z 200 j) ∧ (wkE q h Su sl Z' ∨ wkW q h Su sl 0 Z' ∨ wkX Su sl Z') := by
  have wr := winF_rg (U0 Su)
  have m6 : Z 201 0 ≤ 6 := by unfold hmOk at hm; omega
  rcases Decidable.em (winF (U0 Su) = 2 ∧ 0 < Z 200 1) with hc | hc
  · obtain ⟨c1, c2, c3⟩ := hp.1 hc
    have e2 : Z' 201 = Z 201 := c1 201 (by decide)
    have eck : ckF h (Z 201 0) (Su 1) (U0 Su) = ckC h (Z 201 0) (pkF (Su 1) (U0 Su) 6) := (ckF_cg hm (pk_ag (ag_ok hS)).1 (pk_ag (ag_ok hS)).2).symm
    refine ⟨⟨ch.wd c1 (by decide), c2⟩, Or.inr (Or.inl ?_)⟩
    rcases c3 with ⟨g1, g2⟩ | ⟨-, -, g3⟩
    · refine ⟨hc.1, by rw [g1]; exact h7, by rw [c2 6 (by decide), h6]; rfl, tZ9.kp h9 c1 (by decide), fun u hu => absurd hu (Nat.not_lt_zero u), Or.inl ⟨by omega, ?_, ?_⟩⟩
      · rw [e2]
        rw [eck] at g2
        exact g2
      · rw [e2]
        exact hac.kp c1 m6 (by decide)
    · exact absurd g3 (by show ¬ 400 < 1; decide)
  · obtain ⟨c1, c2⟩ := hp.2 hc
    have e1 : Z' 200 = Z 200 := c1 200 (by decide)
    have e2 : Z' 201 = Z 201 := c1 201 (by decide)
    have e5 : tZ 5 Z' [] := by
      unfold tZ at h5 ⊢
      rw [c1 5 (by decide), c1 (5 + 1) (by decide), c1 (5 + 2) (by decide), c1 (5 + 3) (by decide)]
      exact h5
    refine ⟨⟨ch.wd c1 (by decide), fun j _ => by rw [e1]⟩, Or.inl ⟨by omega, by rw [e1]; exact h7, by rw [e1]; exact h6, e5, tZ9.kp h9 c1 (by decide), ?_⟩⟩
    unfold resZ
    rw [if_pos (by omega), e2]
    rw [hz1, Int.one_mul, Int.sub_zero] at c2
    exact c2
