/-! what a FairFight holds, part by part, where its cells stand -/
theorem sk.up {S : LbS} {Z : Nat → Int → Int} {j k : Nat} {f : Int → Int} (h : k ≠ j) : sk S Z S (va_up Z j f) k := ⟨rfl, rfl, rfl, rfl, va_up_ne _ _ h⟩
section XK
variable {N : Nat → Nat} {x : Nat} {S S' : LbS} {Z Z' : Nat → Int → Int} {F : Nat → Int} {V : Nat → Int → Int}
theorem xO.kp (h : xO x S Z F) (hs : ∀ k, k < 24 → sk S Z S' Z' k) : xO x S' Z' F := by
  have B := fun k (q : k < 24) => (hs k q).1
  have K := fun k (q : k < 24) => (hs k q).2.1
  have L := fun k (q : k < 24) => (hs k q).2.2.1
  have A := fun k (q : k < 24) => (hs k q).2.2.2.1
  have W := fun k (q : k < 24) => (hs k q).2.2.2.2
  obtain ⟨h1, h2, h3, h4, h5, h6⟩ := h
  have hsm : sm S S' ((List.range 400).drop 24) ∨ True := Or.inr trivial
  refine ⟨(B 0 (by decide)).trans h1, ?_, fun k hk => ?_, ?_, ?_, ?_⟩
  · obtain ⟨t5, t9, t1, t2, t3⟩ := h2
    have sp : ∀ ks : List Nat, shp S ks → (∀ k ∈ ks, k < 24) → shp S' ks := fun ks hk hb k hm => by
      rw [K k (hb k hm), L k (hb k hm)]
      exact hk k hm
    refine ⟨⟨sp _ t5.1 (by simp), ?_, ?_, ?_⟩, ⟨sp _ t9.1 (by simp), ?_, ?_, ?_⟩, by rw [K 0 (by decide)]; exact t1, by rw [A 0 (by decide), B 5 (by decide)]; exact t2, by rw [A 0 (by decide), B 9 (by decide)]; exact t3⟩
    · rw [A 5 (by decide), B 6 (by decide)]; exact t5.2.1
    · rw [A 5 (by decide), B 7 (by decide)]; exact t5.2.2.1
    · rw [A 5 (by decide), B 8 (by decide)]; exact t5.2.2.2
    · rw [A 9 (by decide), B 10 (by decide)]; exact t9.2.1
    · rw [A 9 (by decide), B 11 (by decide)]; exact t9.2.2.1
    · rw [A 9 (by decide), B 12 (by decide)]; exact t9.2.2.2
  · have hk' := hk
    simp at hk'
    rw [K k (by omega), L k (by omega)]
    exact h3 k hk
  · rw [A 0 (by decide), B 1 (by decide), B 2 (by decide), B 13 (by decide), B 14 (by decide), B 15 (by decide), B 16 (by decide), B 19 (by decide)]
    exact h4
  · rw [A 2 (by decide), A 16 (by decide), A 19 (by decide), B 3 (by decide), B 4 (by decide), B 17 (by decide), B 18 (by decide), B 20 (by decide), B 21 (by decide), B 22 (by decide), B 23 (by decide)]
    exact h5
  · rw [W 0 (by decide)]
    exact h6
theorem xTb.kp (h : xTb Z) (hs : ∀ k, 5 ≤ k → k < 13 → Z' k = Z k) : xTb Z' := by
  obtain ⟨⟨L, hL⟩, M, hM⟩ := h
  unfold tZ at hL hM
  refine ⟨⟨L, ?_⟩, ⟨M, ?_⟩⟩
  · unfold tZ
    rw [hs 5 (by omega) (by omega), hs (5 + 1) (by omega) (by omega), hs (5 + 2) (by omega) (by omega), hs (5 + 3) (by omega) (by omega)]
    exact hL
  · unfold tZ
    rw [hs 9 (by omega) (by omega), hs (9 + 1) (by omega) (by omega), hs (9 + 2) (by omega) (by omega), hs (9 + 3) (by omega) (by omega)]
    exact hM
theorem xFi.kp (h : xFi S Z F V) (hs : ∀ k, k = 1 ∨ 32 ≤ k ∧ k < 64 → sk S Z S' Z' k) (h0 : F 0 ≤ 16) : xFi S' Z' F V := fun j a b => by
  have e1 := hs 1 (Or.inl rfl)
  have e2 := hs (32 + j.toNat) (Or.inr (by omega))
  have e3 := hs (48 + j.toNat) (Or.inr (by omega))
  rw [e1.2.2.2.1, e2.1, e2.2.1, e2.2.2.2.1, e3.1, e3.2.1, e3.2.2.1, e3.2.2.2.2]
  exact h j a b
theorem xSi.kp (h : xSi Z V) (hs : ∀ k, k = 3 ∨ k = 4 → Z' k = Z k) : xSi Z' V := by
  unfold xSi
  rw [hs 3 (Or.inl rfl), hs 4 (Or.inr rfl)]
  exact h
theorem xPl.kp (h : xPl Z V) (hs : ∀ k, k = 15 ∨ k = 17 ∨ k = 18 → Z' k = Z k) : xPl Z' V := by
  unfold xPl
  rw [hs 15 (by omega), hs 17 (by omega), hs 18 (by omega)]
  exact h
theorem xFg.kp (h : xFg N S Z F V) (hs : ∀ k, k = 13 ∨ k = 24 ∨ 64 ≤ k ∧ k < 70 → sk S Z S' Z' k) (h0 : F 25 ≤ 6) : xFg N S' Z' F V := by
  have e1 := hs 13 (by omega)
  have e2 := hs 24 (by omega)
  unfold xFg
  rw [e1.2.2.2.2, e1.2.2.2.1, e2.1, e2.2.1, e2.2.2.1, e2.2.2.2.1]
  refine ⟨h.1, h.2.1, fun k a b => ?_⟩
  have e3 := hs (64 + k.toNat) (by omega)
  rw [e3.1, e3.2.1, e3.2.2.1, e3.2.2.2.2]
  exact h.2.2 k a b
theorem xBd.kp (h : xBd N S Z F V) (hs : ∀ k, k = 14 ∨ k = 25 ∨ 70 ≤ k ∧ k < 97 → sk S Z S' Z' k) (h0 : F 31 ≤ 27) : xBd N S' Z' F V := by
  have e1 := hs 14 (by omega)
  have e2 := hs 25 (by omega)
  unfold xBd
  rw [e1.2.2.2.2, e1.2.2.2.1, e2.1, e2.2.1, e2.2.2.1, e2.2.2.2.1]
  refine ⟨h.1, h.2.1, fun k a b => ?_⟩
  have e3 := hs (70 + k.toNat) (by omega)
  rw [e3.1, e3.2.1, e3.2.2.2.2]
  exact h.2.2 k a b
theorem xSh.kp (h : xSh S Z V) (hs : ∀ k, 20 ≤ k ∧ k < 24 ∨ 28 ≤ k ∧ k < 32 → sk S Z S' Z' k) : xSh S' Z' V := fun i a b => by
  have e1 := hs (20 + i.toNat) (by omega)
  have e2 := hs (28 + i.toNat) (by omega)
  rw [e1.2.2.2.1, e1.2.2.2.2, e2.1, e2.2.1, e2.2.2.1, e2.2.2.2.2]
  exact h i a b
/-- all of it -/
theorem xRel.kp (h : xRel N x S Z F V) (hI : SI F V) (hs : ∀ k, k < 97 → sk S Z S' Z' k) : xRel N x S' Z' F V := by
  have hn := hI.nums
  exact ⟨h.o.kp fun k q => hs k (by omega), h.tb.kp fun k _ q => (hs k (by omega)).2.2.2.2, h.fi.kp (fun k q => hs k (by omega)) hn.1.2, h.si.kp fun k q => (hs k (by omega)).2.2.2.2, h.pl.kp fun k q => (hs k (by omega)).2.2.2.2, h.fg.kp (fun k q => hs k (by omega)) (by omega), h.bd.kp (fun k q => hs k (by omega)) (by omega), h.sh.kp fun k q => hs k (by omega)⟩
/-- a fighter's number -/
theorem xRel.told (h : xRel N x S Z F V) (hI : SI F V) {f w v : Int} (hf : 0 ≤ f ∧ f < F 0) (hw : 0 ≤ w ∧ w < 6) : xRel N x S (va_up Z (48 + f.toNat) (uI (Z (48 + f.toNat)) w v)) F (va_up V 1 (uI (V 1) (6 * f + w) v)) := by
  have hn := hI.nums
  have hs : ∀ k, k ≠ 48 + f.toNat → sk S Z S (va_up Z (48 + f.toNat) (uI (Z (48 + f.toNat)) w v)) k := fun k q => sk.up q
  refine ⟨h.o.kp fun k q => hs k (by omega), h.tb.kp fun k _ q => (hs k (by omega)).2.2.2.2, fun j a b => ?_, (show xSi _ V from h.si.kp fun k q => (hs k (by omega)).2.2.2.2), (show xPl _ V from h.pl.kp fun k q => (hs k (by omega)).2.2.2.2), (show xFg N S _ F V from h.fg.kp (fun k q => hs k (by omega)) (by omega)), (show xBd N S _ F V from h.bd.kp (fun k q => hs k (by omega)) (by omega)), (show xSh S _ V from h.sh.kp fun k q => hs k (by omega))⟩
  obtain ⟨h1, h2, h3, h4⟩ := h.fi j a b
  refine ⟨h1, h2, h3, fun y y1 y2 => ?_⟩
  show va_up Z (48 + f.toNat) (uI (Z (48 + f.toNat)) w v) (48 + j.toNat) y = uI (V 1) (6 * f + w) v (6 * j + y)
  by_cases q : j = f
  · rw [q, va_up_self]
    unfold uI
    by_cases q2 : y = w
    · rw [if_pos q2, if_pos (by omega)]
    · rw [if_neg q2, if_neg (by omega), ← q]
      exact h4 y y1 y2
  · rw [va_up_ne _ _ (by omega)]
    unfold uI
    rw [if_neg (by omega)]
    exact h4 y y1 y2
theorem uI3 {f : Int → Int} {o a b d q : Int} (hq : 0 ≤ q ∧ q < 3) : uI (uI (uI f o a) (o + 1) b) (o + 2) d (o + q) = (if q = 0 then a else if q = 1 then b else d) := by
  have : q = 0 ∨ q = 1 ∨ q = 2 := by omega
  unfold uI
  rcases this with rfl | rfl | rfl
  · rw [if_neg (by omega), if_neg (by omega), if_pos (by omega)]; rfl
  · rw [if_neg (by omega), if_pos (by omega)]; rfl
  · rw [if_pos (by omega)]; rfl
theorem uI3_n {f : Int → Int} {o a b d q : Int} (hq : q < o ∨ o + 3 ≤ q) : uI (uI (uI f o a) (o + 1) b) (o + 2) d q = f q := by
  unfold uI
  rw [if_neg (by omega), if_neg (by omega), if_neg (by omega)]
/-- a side told anew -/
theorem xRel.sideW (h : xRel N x S Z F V) (hI : SI F V) {i : Int} (hi : i = 0 ∨ i = 1) {n : Nat} {Z' : Nat → Int → Int} {a b d : Int} (hc : ch Z Z' [3 + i.toNat]) (hv : Z' (3 + i.toNat) 0 = a ∧ Z' (3 + i.toNat) 1 = b ∧ Z' (3 + i.toNat) 2 = d) : xRel N x (uA (uN S (3 + i.toNat) n 1 3) 2 (uI (zA S 2) i (some n))) Z' F (va_up V 2 (uI (uI (uI (V 2) (3 * i) a) (3 * i + 1) b) (3 * i + 2) d)) := by
  have hn := hI.nums
  have hs : ∀ k, k ≠ 3 + i.toNat → k ≠ 2 → sk S Z (uA (uN S (3 + i.toNat) n 1 3) 2 (uI (zA S 2) i (some n))) Z' k := fun k q q2 => ⟨va_up_ne _ _ q, va_up_ne _ _ q, va_up_ne _ _ q, (va_up_ne _ _ q2).trans (va_up_ne _ _ q), hc k (by simp; exact q)⟩
  have ho := h.o
  have hsi := h.si
  refine ⟨?_, h.tb.kp fun k _ q => (hs k (by omega) (by omega)).2.2.2.2, (show xFi _ _ F V from h.fi.kp (fun k q => hs k (by omega) (by omega)) hn.1.2), ?_, (show xPl _ V from h.pl.kp fun k q => (hs k (by omega) (by omega)).2.2.2.2), (show xFg N _ _ F V from h.fg.kp (fun k q => hs k (by omega) (by omega)) (by omega)), (show xBd N _ _ F V from h.bd.kp (fun k q => hs k (by omega) (by omega)) (by omega)), (show xSh _ _ V from h.sh.kp fun k q => hs k (by omega) (by omega))⟩
  · obtain ⟨h1, h2, h3, h4, h5, h6⟩ := ho
    have hz : Z' 0 = Z 0 := hc 0 (by simp; omega)
    rcases hi with rfl | rfl
    · refine ⟨h1, h2.sm (ks := [2, 3]) ((sm.rf.uN 3 _ _ _ (by decide)).uA 2 _ (by decide)) (by decide), fun k hk => ?_, h4, ⟨⟨rfl, h5.1.2⟩, h5.2⟩, by rw [hz]; exact h6⟩
      simp at hk
      rcases hk with rfl | rfl | rfl | rfl | rfl | rfl | rfl | rfl | rfl | rfl | rfl | rfl | rfl | rfl | rfl <;> first | exact ⟨rfl, fun _ => rfl⟩ | exact h3 _ (by decide)
    · refine ⟨h1, h2.sm (ks := [2, 4]) ((sm.rf.uN 4 _ _ _ (by decide)).uA 2 _ (by decide)) (by decide), fun k hk => ?_, h4, ⟨⟨h5.1.1, rfl⟩, h5.2⟩, by rw [hz]; exact h6⟩
      simp at hk
      rcases hk with rfl | rfl | rfl | rfl | rfl | rfl | rfl | rfl | rfl | rfl | rfl | rfl | rfl | rfl | rfl <;> first | exact ⟨rfl, fun _ => rfl⟩ | exact h3 _ (by decide)
  · intro q q1 q2
    show Z' 3 q = uI (uI (uI (V 2) (3 * i) a) (3 * i + 1) b) (3 * i + 2) d q ∧ Z' 4 q = uI (uI (uI (V 2) (3 * i) a) (3 * i + 1) b) (3 * i + 2) d (3 + q)
    have hq : q = 0 ∨ q = 1 ∨ q = 2 := by omega
    rcases hi with rfl | rfl
    · have e4 : Z' 4 = Z 4 := hc 4 (by decide)
      rw [e4, uI3_n (q := 3 + q) (by omega), show q = 3 * 0 + q by omega, uI3 ⟨q1, q2⟩]
      refine ⟨?_, ?_⟩
      · rw [show (3 : Int) * 0 + q = q by omega]
        rcases hq with rfl | rfl | rfl
        · exact hv.1
        · exact hv.2.1
        · exact hv.2.2
      · rw [show (3 : Int) * 0 + q = q by omega]
        exact (hsi q q1 q2).2
    · have e3 : Z' 3 = Z 3 := hc 3 (by decide)
      rw [e3, uI3_n (q := q) (by omega), show (3 : Int) + q = 3 * 1 + q by omega, uI3 ⟨q1, q2⟩]
      refine ⟨(hsi q q1 q2).1, ?_⟩
      rcases hq with rfl | rfl | rfl
      · exact hv.1
      · exact hv.2.1
      · exact hv.2.2
end XK
