/-! a fight more, no fights, a fighter more: the labels -/
def sw (a b k : Nat) : Nat := if k = a then b else if k = b then a else k
theorem sw_a (a b : Nat) : sw a b a = b := if_pos rfl
theorem sw_b (a b : Nat) : sw a b b = a := by
  unfold sw
  by_cases q : b = a
  · rw [if_pos q, q]
  · rw [if_neg q, if_pos rfl]
theorem sw_n {a b k : Nat} (h1 : k ≠ a) (h2 : k ≠ b) : sw a b k = k := by
  unfold sw
  rw [if_neg h1, if_neg h2]
theorem sw_sw (a b k : Nat) : sw a b (sw a b k) = k := by
  by_cases q1 : k = a
  · rw [q1, sw_a, sw_b]
  · by_cases q2 : k = b
    · rw [q2, sw_b, sw_a]
    · rw [sw_n q1 q2, sw_n q1 q2]
section XL
variable {N : Nat → Nat} {x : Nat} {S S' : LbS} {Z Z' : Nat → Int → Int} {F : Nat → Int} {V : Nat → Int → Int}
theorem sk.swp {S1 : LbS} {Z1 : Nat → Int → Int} {a b k : Nat} (h : sk S Z S1 Z1 k) (h1 : k ≠ a) (h2 : k ≠ b) : sk S Z (uP S1 (sw a b)) (fun j => Z1 (sw a b j)) k := by
  have e := sw_n h1 h2
  show zB S1 (sw a b k) = _ ∧ zK S1 (sw a b k) = _ ∧ zN S1 (sw a b k) = _ ∧ zA S1 (sw a b k) = _ ∧ Z1 (sw a b k) = _
  rw [e]
  exact h
theorem xO.kp2 (h : xO x S Z F) {F' : Nat → Int} (B : ∀ k, k < 24 → zB S' k = zB S k) (K : ∀ k, k < 24 → zK S' k = zK S k) (L : ∀ k, k < 24 → zN S' k = zN S k) (A : ∀ k, k < 24 → k ≠ 1 → k ≠ 13 → k ≠ 14 → zA S' k = zA S k) (W : Z' 0 1 = F' 0 ∧ Z' 0 3 = F' 3 ∧ Z' 0 4 = F' 4 ∧ Z' 0 5 = F' 5 ∧ Z' 0 9 = F' 27 ∧ Z' 0 10 = F' 28 ∧ Z' 0 17 = F' 40) : xO x S' Z' F' := by
  obtain ⟨h1, h2, h3, h4, h5, h6⟩ := h
  refine ⟨(B 0 (by decide)).trans h1, ?_, fun k hk => ?_, ?_, ?_, ?_⟩
  · obtain ⟨t5, t9, t1, t2, t3⟩ := h2
    have sp : ∀ ks : List Nat, shp S ks → (∀ k ∈ ks, k < 24) → shp S' ks := fun ks hk hb k hm => by
      rw [K k (hb k hm), L k (hb k hm)]
      exact hk k hm
    refine ⟨⟨sp _ t5.1 (by simp), ?_, ?_, ?_⟩, ⟨sp _ t9.1 (by simp), ?_, ?_, ?_⟩, by rw [K 0 (by decide)]; exact t1, by rw [A 0 (by decide) (by decide) (by decide) (by decide), B 5 (by decide)]; exact t2, by rw [A 0 (by decide) (by decide) (by decide) (by decide), B 9 (by decide)]; exact t3⟩
    · rw [A 5 (by decide) (by decide) (by decide) (by decide), B 6 (by decide)]; exact t5.2.1
    · rw [A 5 (by decide) (by decide) (by decide) (by decide), B 7 (by decide)]; exact t5.2.2.1
    · rw [A 5 (by decide) (by decide) (by decide) (by decide), B 8 (by decide)]; exact t5.2.2.2
    · rw [A 9 (by decide) (by decide) (by decide) (by decide), B 10 (by decide)]; exact t9.2.1
    · rw [A 9 (by decide) (by decide) (by decide) (by decide), B 11 (by decide)]; exact t9.2.2.1
    · rw [A 9 (by decide) (by decide) (by decide) (by decide), B 12 (by decide)]; exact t9.2.2.2
  · have hk' := hk
    simp at hk'
    rw [K k (by omega), L k (by omega)]
    exact h3 k hk
  · rw [A 0 (by decide) (by decide) (by decide) (by decide), B 1 (by decide), B 2 (by decide), B 13 (by decide), B 14 (by decide), B 15 (by decide), B 16 (by decide), B 19 (by decide)]
    exact h4
  · rw [A 2 (by decide) (by decide) (by decide) (by decide), A 16 (by decide) (by decide) (by decide) (by decide), A 19 (by decide) (by decide) (by decide) (by decide), B 3 (by decide), B 4 (by decide), B 17 (by decide), B 18 (by decide), B 20 (by decide), B 21 (by decide), B 22 (by decide), B 23 (by decide)]
    exact h5
  · exact W
theorem xRel.addF (h : xRel N x S Z F V) (hI : SI F V) (h25 : F 25 < 6) {S1 : LbS} {Z1 : Nat → Int → Int} {a b d : Int} (hs : ∀ k, k < 97 → k ≠ 13 → k ≠ 24 → sk S Z S1 Z1 k) (h13 : zB S1 13 = zB S 13 ∧ zK S1 13 = zK S 13 ∧ zN S1 13 = zN S 13) (hz : Z1 13 2 = F 25 + 1)
    (he : zA S1 13 1 = some (zB S1 24) ∧ zK S1 24 = 10 ∧ zN S1 24 = 10) (ho : ∀ k : Int, 0 ≤ k → k < F 25 → zA S1 24 k = zA S 24 k) (hn : zA S1 24 (F 25) = some (zB S1 100)) (hr : zK S1 100 = 1 ∧ zN S1 100 = 3) (hv : Z1 100 0 = a ∧ Z1 100 1 = b ∧ Z1 100 2 = d) :
    xRel N x (uP S1 (sw 100 (64 + (F 25).toNat))) (fun k => Z1 (sw 100 (64 + (F 25).toNat) k)) (va_up F 25 (F 25 + 1)) (va_up V 17 (uI (uI (uI (V 17) (3 * F 25) a) (3 * F 25 + 1) b) (3 * F 25 + 2) d)) := by
  have hnn := hI.nums
  have hs2 : ∀ k, k < 97 → k ≠ 13 → k ≠ 24 → k ≠ 64 + (F 25).toNat → sk S Z (uP S1 (sw 100 (64 + (F 25).toNat))) (fun k => Z1 (sw 100 (64 + (F 25).toNat) k)) k := fun k q1 q2 q3 q4 => (hs k q1 q2 q3).swp (by omega) q4
  have e13 : sw 100 (64 + (F 25).toNat) 13 = 13 := sw_n (by decide) (by omega)
  have e24 : sw 100 (64 + (F 25).toNat) 24 = 24 := sw_n (by decide) (by omega)
  have eR : sw 100 (64 + (F 25).toNat) (64 + (F 25).toNat) = 100 := sw_b _ _
  refine ⟨h.o.kp2 (fun k q => ?_) (fun k q => ?_) (fun k q => ?_) (fun k q q1 q2 q3 => (hs2 k (by omega) (by omega) (by omega) (by omega)).2.2.2.1) ?_, h.tb.kp fun k _ q => (hs2 k (by omega) (by omega) (by omega) (by omega)).2.2.2.2, (show xFi _ _ F V from h.fi.kp (fun k q => hs2 k (by omega) (by omega) (by omega) (by omega)) hnn.1.2), (show xSi _ V from h.si.kp fun k q => (hs2 k (by omega) (by omega) (by omega) (by omega)).2.2.2.2), (show xPl _ V from h.pl.kp fun k q => (hs2 k (by omega) (by omega) (by omega) (by omega)).2.2.2.2), ⟨?_, Or.inr ?_, fun k q1 q2 => ?_⟩, (show xBd N _ _ F V from h.bd.kp (fun k q => hs2 k (by omega) (by omega) (by omega) (by omega)) (by omega)), (show xSh _ _ V from h.sh.kp fun k q => hs2 k (by omega) (by omega) (by omega) (by omega))⟩
  · by_cases z : k = 13
    · rw [z]; show zB S1 (sw 100 (64 + (F 25).toNat) 13) = _; rw [e13]; exact h13.1
    · exact (hs2 k (by omega) z (by omega) (by omega)).1
  · by_cases z : k = 13
    · rw [z]; show zK S1 (sw 100 (64 + (F 25).toNat) 13) = _; rw [e13]; exact h13.2.1
    · exact (hs2 k (by omega) z (by omega) (by omega)).2.1
  · by_cases z : k = 13
    · rw [z]; show zN S1 (sw 100 (64 + (F 25).toNat) 13) = _; rw [e13]; exact h13.2.2
    · exact (hs2 k (by omega) z (by omega) (by omega)).2.2.1
  · have e0 : Z1 (sw 100 (64 + (F 25).toNat) 0) = Z 0 := (hs2 0 (by omega) (by omega) (by omega) (by omega)).2.2.2.2
    rw [e0]
    exact h.n
  · show Z1 (sw 100 (64 + (F 25).toNat) 13) 2 = F 25 + 1
    rw [e13]; exact hz
  · show zA S1 (sw 100 (64 + (F 25).toNat) 13) 1 = some (zB S1 (sw 100 (64 + (F 25).toNat) 24)) ∧ zK S1 (sw 100 (64 + (F 25).toNat) 24) = 10 ∧ zN S1 (sw 100 (64 + (F 25).toNat) 24) = 10
    rw [e13, e24]; exact he
  · have q2 : k < F 25 + 1 := q2
    show zA S1 (sw 100 (64 + (F 25).toNat) 24) k = some (zB S1 (sw 100 (64 + (F 25).toNat) (64 + k.toNat))) ∧ (zK S1 (sw 100 (64 + (F 25).toNat) (64 + k.toNat)) = 1 ∧ zN S1 (sw 100 (64 + (F 25).toNat) (64 + k.toNat)) = 3) ∧ ∀ q : Int, 0 ≤ q → q < 3 → Z1 (sw 100 (64 + (F 25).toNat) (64 + k.toNat)) q = uI (uI (uI (V 17) (3 * F 25) a) (3 * F 25 + 1) b) (3 * F 25 + 2) d (3 * k + q)
    by_cases z : k = F 25
    · rw [z, e24, eR]
      refine ⟨hn, hr, fun q y1 y2 => ?_⟩
      rw [uI3 ⟨y1, y2⟩]
      have : q = 0 ∨ q = 1 ∨ q = 2 := by omega
      rcases this with rfl | rfl | rfl
      · exact hv.1
      · exact hv.2.1
      · exact hv.2.2
    · obtain ⟨g1, g2, g3⟩ := h.fg.2.2 k q1 (by omega)
      have e1 := hs2 (64 + k.toNat) (by omega) (by omega) (by omega) (by omega)
      rw [e24, ho k q1 (by omega)]
      refine ⟨?_, ?_, fun q y1 y2 => ?_⟩
      · rw [g1]; exact congrArg some e1.1.symm
      · exact ⟨e1.2.1.trans g2.1, e1.2.2.1.trans g2.2⟩
      · rw [uI3_n (by omega)]
        exact (congrFun e1.2.2.2.2 q).trans (g3 q y1 y2)
theorem xRel.rstF (h : xRel N x S Z F V) (hI : SI F V) {S1 : LbS} {Z1 : Nat → Int → Int} (hs : ∀ k, k < 97 → k ≠ 13 → k ≠ 24 → sk S Z S1 Z1 k) (h13 : zB S1 13 = zB S 13 ∧ zK S1 13 = zK S 13 ∧ zN S1 13 = zN S 13) (hz : Z1 13 2 = 0)
    (he : zA S1 13 1 = some (N 4) ∨ (zA S1 13 1 = some (zB S1 24) ∧ zK S1 24 = 10 ∧ zN S1 24 = 10)) : xRel N x S1 Z1 (va_up F 25 0) V := by
  have hnn := hI.nums
  refine ⟨h.o.kp2 (fun k q => ?_) (fun k q => ?_) (fun k q => ?_) (fun k q q1 q2 q3 => (hs k (by omega) (by omega) (by omega)).2.2.2.1) ?_, h.tb.kp fun k _ q => (hs k (by omega) (by omega) (by omega)).2.2.2.2, (show xFi _ _ F V from h.fi.kp (fun k q => hs k (by omega) (by omega) (by omega)) hnn.1.2), (h.si.kp fun k q => (hs k (by omega) (by omega) (by omega)).2.2.2.2), (h.pl.kp fun k q => (hs k (by omega) (by omega) (by omega)).2.2.2.2), ⟨hz, ?_, fun k q1 q2 => ?_⟩, (show xBd N _ _ F V from h.bd.kp (fun k q => hs k (by omega) (by omega) (by omega)) (by omega)), (h.sh.kp fun k q => hs k (by omega) (by omega) (by omega))⟩
  · by_cases z : k = 13
    · rw [z]; exact h13.1
    · exact (hs k (by omega) z (by omega)).1
  · by_cases z : k = 13
    · rw [z]; exact h13.2.1
    · exact (hs k (by omega) z (by omega)).2.1
  · by_cases z : k = 13
    · rw [z]; exact h13.2.2
    · exact (hs k (by omega) z (by omega)).2.2.1
  · have e0 := (hs 0 (by omega) (by omega) (by omega)).2.2.2.2
    rw [e0]
    exact h.n
  · rcases he with q | q
    · exact Or.inl ⟨rfl, q⟩
    · exact Or.inr q
  · have q2 : k < 0 := q2
    omega
def u6 (f : Int → Int) (o a0 a1 a2 a3 a4 a5 : Int) : Int → Int := uI (uI (uI (uI (uI (uI f o a0) (o + 1) a1) (o + 2) a2) (o + 3) a3) (o + 4) a4) (o + 5) a5
theorem u6_n {f : Int → Int} {o a0 a1 a2 a3 a4 a5 q : Int} (h : q < o ∨ o + 6 ≤ q) : u6 f o a0 a1 a2 a3 a4 a5 q = f q := by
  unfold u6 uI
  rw [if_neg (by omega), if_neg (by omega), if_neg (by omega), if_neg (by omega), if_neg (by omega), if_neg (by omega)]
theorem u6_s {f g : Int → Int} {o o2 a0 a1 a2 a3 a4 a5 q : Int} (h : 0 ≤ q ∧ q < 6) : u6 f o a0 a1 a2 a3 a4 a5 (o + q) = u6 g o2 a0 a1 a2 a3 a4 a5 (o2 + q) := by
  have : q = 0 ∨ q = 1 ∨ q = 2 ∨ q = 3 ∨ q = 4 ∨ q = 5 := by omega
  unfold u6 uI
  rcases this with rfl | rfl | rfl | rfl | rfl | rfl
  · iterate 5 rw [if_neg (by omega)]
    rw [if_pos (by omega)]
    iterate 5 rw [if_neg (by omega)]
    rw [if_pos (by omega)]
  · iterate 4 rw [if_neg (by omega)]
    rw [if_pos (by omega)]
    iterate 4 rw [if_neg (by omega)]
    rw [if_pos (by omega)]
  · iterate 3 rw [if_neg (by omega)]
    rw [if_pos (by omega)]
    iterate 3 rw [if_neg (by omega)]
    rw [if_pos (by omega)]
  · iterate 2 rw [if_neg (by omega)]
    rw [if_pos (by omega)]
    iterate 2 rw [if_neg (by omega)]
    rw [if_pos (by omega)]
  · rw [if_neg (by omega)]
    rw [if_pos (by omega)]
    rw [if_neg (by omega)]
    rw [if_pos (by omega)]
  · rw [if_pos (by omega)]
    rw [if_pos (by omega)]
theorem xRel.addX (h : xRel N x S Z F V) (hI : SI F V) (h16 : F 0 < 16) {S1 : LbS} {Z1 : Nat → Int → Int} {a0 a1 a2 a3 a4 a5 : Int} (hs : ∀ k, k < 97 → k ≠ 0 → k ≠ 1 → sk S Z S1 Z1 k) (h0 : zB S1 0 = zB S 0 ∧ zK S1 0 = zK S 0 ∧ zN S1 0 = zN S 0 ∧ zA S1 0 = zA S 0) (hz : Z1 0 1 = F 0 + 1 ∧ ∀ j : Int, j ≠ 1 → Z1 0 j = Z 0 j)
    (h1 : zB S1 1 = zB S 1 ∧ zK S1 1 = zK S 1 ∧ zN S1 1 = zN S 1) (ho : ∀ k : Int, 0 ≤ k → k < F 0 → zA S1 1 k = zA S 1 k) (hn : zA S1 1 (F 0) = some (zB S1 101)) (hf : zK S1 101 = 24 ∧ zA S1 101 0 = some (zB S1 100)) (hr : zK S1 100 = 1 ∧ zN S1 100 = 6) {f0 : Int → Int} (hv : Z1 100 = u6 f0 0 a0 a1 a2 a3 a4 a5) :
    xRel N x (uP (uP S1 (sw 100 (48 + (F 0).toNat))) (sw 101 (32 + (F 0).toNat))) (fun k => Z1 (sw 100 (48 + (F 0).toNat) (sw 101 (32 + (F 0).toNat) k))) (va_up F 0 (F 0 + 1)) (va_up V 1 (u6 (V 1) (6 * F 0) a0 a1 a2 a3 a4 a5)) := by
  have hnn := hI.nums
  obtain ⟨S2, e2⟩ : ∃ S2, uP (uP S1 (sw 100 (48 + (F 0).toNat))) (sw 101 (32 + (F 0).toNat)) = S2 := ⟨_, rfl⟩
  obtain ⟨Z2, e3⟩ : ∃ Z2 : Nat → Int → Int, (fun k => Z1 (sw 100 (48 + (F 0).toNat) (sw 101 (32 + (F 0).toNat) k))) = Z2 := ⟨_, rfl⟩
  have at_ : ∀ k j, sw 100 (48 + (F 0).toNat) (sw 101 (32 + (F 0).toNat) k) = j → zB S2 k = zB S1 j ∧ zK S2 k = zK S1 j ∧ zN S2 k = zN S1 j ∧ zA S2 k = zA S1 j ∧ Z2 k = Z1 j := fun k j q => by
    rw [← e2, ← e3, ← q]
    exact ⟨rfl, rfl, rfl, rfl, rfl⟩
  have same : ∀ k, k < 97 → k ≠ 32 + (F 0).toNat → k ≠ 48 + (F 0).toNat → sw 100 (48 + (F 0).toNat) (sw 101 (32 + (F 0).toNat) k) = k := fun k q1 q2 q3 => by rw [sw_n (a := 101) (by omega) q2, sw_n (by omega) q3]
  have hs2 : ∀ k, k < 97 → k ≠ 0 → k ≠ 1 → k ≠ 32 + (F 0).toNat → k ≠ 48 + (F 0).toNat → sk S Z S2 Z2 k := fun k q1 q2 q3 q4 q5 => by
    obtain ⟨b1, b2, b3, b4, b5⟩ := at_ k k (same k q1 q4 q5)
    obtain ⟨d1, d2, d3, d4, d5⟩ := hs k q1 q2 q3
    exact ⟨b1.trans d1, b2.trans d2, b3.trans d3, b4.trans d4, b5.trans d5⟩
  have t0 := at_ 0 0 (same 0 (by omega) (by omega) (by omega))
  have t1 := at_ 1 1 (same 1 (by omega) (by omega) (by omega))
  have tX := at_ (32 + (F 0).toNat) 101 (by rw [sw_b, sw_n (by decide) (by omega)])
  have tY := at_ (48 + (F 0).toNat) 100 (by rw [sw_n (a := 101) (by omega) (by omega), sw_b])
  rw [e2, e3]
  refine ⟨h.o.kp2 (fun k q => ?_) (fun k q => ?_) (fun k q => ?_) (fun k q q1 q2 q3 => ?_) ?_, h.tb.kp fun k _ q => (hs2 k (by omega) (by omega) (by omega) (by omega) (by omega)).2.2.2.2, fun j y1 y2 => ?_, (show xSi _ V from h.si.kp fun k q => (hs2 k (by omega) (by omega) (by omega) (by omega) (by omega)).2.2.2.2), (show xPl _ V from h.pl.kp fun k q => (hs2 k (by omega) (by omega) (by omega) (by omega) (by omega)).2.2.2.2), (show xFg N _ _ F V from h.fg.kp (fun k q => hs2 k (by omega) (by omega) (by omega) (by omega) (by omega)) (by omega)), (show xBd N _ _ F V from h.bd.kp (fun k q => hs2 k (by omega) (by omega) (by omega) (by omega) (by omega)) (by omega)), (show xSh _ _ V from h.sh.kp fun k q => hs2 k (by omega) (by omega) (by omega) (by omega) (by omega))⟩
  · by_cases z0 : k = 0
    · rw [z0]; exact t0.1.trans h0.1
    · by_cases z1 : k = 1
      · rw [z1]; exact t1.1.trans h1.1
      · exact (hs2 k (by omega) z0 z1 (by omega) (by omega)).1
  · by_cases z0 : k = 0
    · rw [z0]; exact t0.2.1.trans h0.2.1
    · by_cases z1 : k = 1
      · rw [z1]; exact t1.2.1.trans h1.2.1
      · exact (hs2 k (by omega) z0 z1 (by omega) (by omega)).2.1
  · by_cases z0 : k = 0
    · rw [z0]; exact t0.2.2.1.trans h0.2.2.1
    · by_cases z1 : k = 1
      · rw [z1]; exact t1.2.2.1.trans h1.2.2
      · exact (hs2 k (by omega) z0 z1 (by omega) (by omega)).2.2.1
  · by_cases z0 : k = 0
    · rw [z0]; exact t0.2.2.2.1.trans h0.2.2.2
    · exact (hs2 k (by omega) z0 q1 (by omega) (by omega)).2.2.2.1
  · have hx := h.n
    rw [t0.2.2.2.2, hz.2 3 (by decide), hz.2 4 (by decide), hz.2 5 (by decide), hz.2 9 (by decide), hz.2 10 (by decide), hz.2 17 (by decide)]
    exact ⟨hz.1, hx.2⟩
  · have y2 : j < F 0 + 1 := y2
    by_cases z : j = F 0
    · rw [z, t1.2.2.2.1, hn, tX.1, tX.2.1, tX.2.2.2.1, tY.1, tY.2.1, tY.2.2.1, tY.2.2.2.2, hv]
      refine ⟨rfl, hf, hr, fun w w1 w2 => ?_⟩
      show u6 f0 0 a0 a1 a2 a3 a4 a5 w = u6 (V 1) (6 * F 0) a0 a1 a2 a3 a4 a5 (6 * F 0 + w)
      rw [← u6_s (f := f0) (o := 0) ⟨w1, w2⟩, Int.zero_add]
    · have k1 := hs2 (32 + j.toNat) (by omega) (by omega) (by omega) (by omega) (by omega)
      have k2 := hs2 (48 + j.toNat) (by omega) (by omega) (by omega) (by omega) (by omega)
      obtain ⟨g1, g2, g3, g4⟩ := h.fi j y1 (by omega)
      rw [t1.2.2.2.1, ho j y1 (by omega), k1.1, k1.2.1, k1.2.2.2.1, k2.1, k2.2.1, k2.2.2.1, k2.2.2.2.2]
      refine ⟨g1, g2, g3, fun w w1 w2 => ?_⟩
      show Z (48 + j.toNat) w = u6 (V 1) (6 * F 0) a0 a1 a2 a3 a4 a5 (6 * j + w)
      rw [u6_n (by omega)]
      exact g4 w w1 w2
end XL
