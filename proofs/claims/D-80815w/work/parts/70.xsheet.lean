/-! sheets: lost, laid anew -/
section XSH
variable {N : Nat → Nat} {x : Nat} {S S' : LbS} {Z Z' : Nat → Int → Int} {F : Nat → Int} {V : Nat → Int → Int}
theorem xO.kp3 (h : xO x S Z F) {F' : Nat → Int} (B : ∀ k, k < 24 → zB S' k = zB S k) (K : ∀ k, k < 24 → zK S' k = zK S k) (L : ∀ k, k < 24 → zN S' k = zN S k) (A : ∀ k, k = 0 ∨ k = 2 ∨ k = 5 ∨ k = 9 ∨ k = 16 ∨ k = 19 → zA S' k = zA S k) (W : Z' 0 1 = F' 0 ∧ Z' 0 3 = F' 3 ∧ Z' 0 4 = F' 4 ∧ Z' 0 5 = F' 5 ∧ Z' 0 9 = F' 27 ∧ Z' 0 10 = F' 28 ∧ Z' 0 17 = F' 40) : xO x S' Z' F' := by
  obtain ⟨h1, h2, h3, h4, h5, h6⟩ := h
  refine ⟨(B 0 (by decide)).trans h1, ?_, fun k hk => ?_, ?_, ?_, ?_⟩
  · obtain ⟨t5, t9, t1, t2, t3⟩ := h2
    have sp : ∀ ks : List Nat, shp S ks → (∀ k ∈ ks, k < 24) → shp S' ks := fun ks hk hb k hm => by
      rw [K k (hb k hm), L k (hb k hm)]
      exact hk k hm
    refine ⟨⟨sp _ t5.1 (by simp), ?_, ?_, ?_⟩, ⟨sp _ t9.1 (by simp), ?_, ?_, ?_⟩, by rw [K 0 (by decide)]; exact t1, by rw [A 0 (by decide), B 5 (by decide)]; exact t2, by rw [A 0 (by decide), B 9 (by decide)]; exact t3⟩
    · rw [A 5 (by decide), B 6 (by decide)]; exact t5.2.1
    · rw [A 5 (by decide), B 7 (by decide)]; exact t5.2.2.1
    · rw [A 5 (by decide), B 8 (by decide)]; exact t5.2.2.2
    · rw [A 9 (by decide), B 10 (by decide)]; exact t9.2.1
    · rw [A 9 (by decide), B 11 (by decide)]; exact t9.2.2.1
    · rw [A 9 (by decide), B 12 (by decide)]; exact t9.2.2.2
  · have hk' := hk
    simp at hk'
    rw [K k (by omega), L k (by omega)]
    exact h3 k hk
  · rw [A 0 (by decide), B 1 (by decide), B 2 (by decide), B 13 (by decide), B 14 (by decide), B 15 (by decide), B 16 (by decide), B 19 (by decide)]
    exact h4
  · rw [A 2 (by decide), A 16 (by decide), A 19 (by decide), B 3 (by decide), B 4 (by decide), B 17 (by decide), B 18 (by decide), B 20 (by decide), B 21 (by decide), B 22 (by decide), B 23 (by decide)]
    exact h5
  · exact W
/-- the cells of sheet i alone changed -/
theorem xRel.shW (h : xRel N x S Z F V) (hI : SI F V) {i : Int} (hi : 0 ≤ i ∧ i < 4) {f g e : Int → Int} (hs : ∀ k, k < 97 → k ≠ 20 + i.toNat → k ≠ 28 + i.toNat → sk S Z S' Z' k) (hb : zB S' (20 + i.toNat) = zB S (20 + i.toNat) ∧ zK S' (20 + i.toNat) = zK S (20 + i.toNat) ∧ zN S' (20 + i.toNat) = zN S (20 + i.toNat))
    (hf : ∀ j : Int, 0 ≤ j → j < 4 → j ≠ i → f j = V 23 j ∧ g j = V 24 j ∧ ∀ k : Int, 0 ≤ k → k < V 24 j → e (60 * j + k) = V 25 (60 * j + k))
    (hn : (f i < 0 ∧ zA S' (20 + i.toNat) 1 = none) ∨ (0 ≤ f i ∧ Z' (20 + i.toNat) 0 = f i ∧ zA S' (20 + i.toNat) 1 = some (zB S' (28 + i.toNat)) ∧ zK S' (28 + i.toNat) = shKd (f i) ∧ (zN S' (28 + i.toNat) : Int) = g i ∧ ∀ k : Int, 0 ≤ k → k < g i → Z' (28 + i.toNat) k = e (60 * i + k))) :
    xRel N x S' Z' F (va_up (va_up (va_up V 23 f) 24 g) 25 e) := by
  have hnn := hI.nums
  have c4 : i = 0 ∨ i = 1 ∨ i = 2 ∨ i = 3 := by omega
  refine ⟨h.o.kp3 (fun k q => ?_) (fun k q => ?_) (fun k q => ?_) (fun k q => (hs k (by omega) (by omega) (by omega)).2.2.2.1) ?_, h.tb.kp fun k q1 q => (hs k (by omega) (by omega) (by omega)).2.2.2.2, (show xFi _ _ F V from h.fi.kp (fun k q => hs k (by omega) (by omega) (by omega)) hnn.1.2), (show xSi _ V from h.si.kp fun k q => (hs k (by omega) (by omega) (by omega)).2.2.2.2), (show xPl _ V from h.pl.kp fun k q => (hs k (by omega) (by omega) (by omega)).2.2.2.2), (show xFg N _ _ F V from h.fg.kp (fun k q => hs k (by omega) (by omega) (by omega)) (by omega)), (show xBd N _ _ F V from h.bd.kp (fun k q => hs k (by omega) (by omega) (by omega)) (by omega)), fun j y1 y2 => ?_⟩
  · by_cases z : k = 20 + i.toNat
    · rw [z]; exact hb.1
    · exact (hs k (by omega) z (by omega)).1
  · by_cases z : k = 20 + i.toNat
    · rw [z]; exact hb.2.1
    · exact (hs k (by omega) z (by omega)).2.1
  · by_cases z : k = 20 + i.toNat
    · rw [z]; exact hb.2.2
    · exact (hs k (by omega) z (by omega)).2.2.1
  · have e0 := (hs 0 (by omega) (by omega) (by omega)).2.2.2.2
    rw [e0]
    exact h.n
  · show (f j < 0 ∧ zA S' (20 + j.toNat) 1 = none) ∨ (0 ≤ f j ∧ Z' (20 + j.toNat) 0 = f j ∧ zA S' (20 + j.toNat) 1 = some (zB S' (28 + j.toNat)) ∧ zK S' (28 + j.toNat) = shKd (f j) ∧ (zN S' (28 + j.toNat) : Int) = g j ∧ ∀ k : Int, 0 ≤ k → k < g j → Z' (28 + j.toNat) k = e (60 * j + k))
    by_cases z : j = i
    · rw [z]; exact hn
    · have k1 := hs (20 + j.toNat) (by omega) (by omega) (by omega)
      have k2 := hs (28 + j.toNat) (by omega) (by omega) (by omega)
      obtain ⟨q1, q2, q3⟩ := hf j y1 y2 z
      rw [k1.2.2.2.1, k1.2.2.2.2, k2.1, k2.2.1, k2.2.2.1, k2.2.2.2.2, q1, q2]
      rcases h.sh j y1 y2 with w | ⟨w1, w2, w3, w4, w5, w6⟩
      · exact Or.inl w
      · exact Or.inr ⟨w1, w2, w3, w4, w5, fun k a b => by rw [q3 k a b]; exact w6 k a b⟩
theorem up_id {V : Nat → Int → Int} {k : Nat} : va_up V k (V k) = V := by
  funext j
  by_cases q : j = k
  · rw [q, va_up_self]
  · exact va_up_ne _ _ q
theorem xRel.lost (h : xRel N x S Z F V) (hI : SI F V) {i : Int} (hi : 0 ≤ i ∧ i < 4) : xRel N x (uA S (20 + i.toNat) (uI (zA S (20 + i.toNat)) 1 none)) Z F (va_up V 23 (uI (V 23) i (-1))) := by
  have h1 := h.shW (S' := uA S (20 + i.toNat) (uI (zA S (20 + i.toNat)) 1 none)) (Z' := Z) hI hi (f := uI (V 23) i (-1)) (g := V 24) (e := V 25) (fun k _ q _ => ⟨rfl, rfl, rfl, va_up_ne _ _ q, rfl⟩) ⟨rfl, rfl, rfl⟩ (fun j _ _ q => ⟨uI_n (V 23) _ q, rfl, fun _ _ _ => rfl⟩) (Or.inl ⟨by rw [uI_s]; decide, by show va_up (zA S) (20 + i.toNat) _ (20 + i.toNat) 1 = none; rw [va_up_self]; exact uI_s _ _ _⟩)
  rw [show va_up (va_up (va_up V 23 (uI (V 23) i (-1))) 24 (V 24)) 25 (V 25) = va_up V 23 (uI (V 23) i (-1)) from by
    funext j
    by_cases q5 : j = 25
    · rw [q5]; rfl
    · rw [va_up_ne _ _ q5]
      by_cases q4 : j = 24
      · rw [q4]; rfl
      · exact va_up_ne _ _ q4] at h1
  exact h1
end XSH
