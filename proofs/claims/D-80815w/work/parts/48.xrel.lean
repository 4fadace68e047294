/-! THE FAIRFIGHT at x, held against the model's numbers F and arrays V -/
def sk (S : LbS) (Z : Nat → Int → Int) (S' : LbS) (Z' : Nat → Int → Int) (k : Nat) : Prop := zB S' k = zB S k ∧ zK S' k = zK S k ∧ zN S' k = zN S k ∧ zA S' k = zA S k ∧ Z' k = Z k
theorem sk.rf {S : LbS} {Z : Nat → Int → Int} {k : Nat} : sk S Z S Z k := ⟨rfl, rfl, rfl, rfl, rfl⟩
theorem sk.tr {S S1 S2 : LbS} {Z Z1 Z2 : Nat → Int → Int} {k : Nat} (h1 : sk S Z S1 Z1 k) (h2 : sk S1 Z1 S2 Z2 k) : sk S Z S2 Z2 k := ⟨h2.1.trans h1.1, h2.2.1.trans h1.2.1, h2.2.2.1.trans h1.2.2.1, h2.2.2.2.1.trans h1.2.2.2.1, h2.2.2.2.2.trans h1.2.2.2.2⟩
theorem sk.of {S S' : LbS} {Z Z' : Nat → Int → Int} {k : Nat} {ks kz : List Nat} (h1 : sm S S' ks) (h2 : ch Z Z' kz) (a : k ∉ ks) (b : k ∉ kz) : sk S Z S' Z' k := by
  obtain ⟨x1, x2, x3, x4⟩ := h1 k a
  exact ⟨x1, x2, x3, x4, h2 k b⟩
def xO (x : Nat) (S : LbS) (Z : Nat → Int → Int) (F : Nat → Int) : Prop :=
  zB S 0 = x ∧ xT S ∧ shp S [1, 2, 3, 4, 13, 14, 15, 16, 17, 18, 19, 20, 21, 22, 23] ∧
  (zA S 0 0 = some (zB S 1) ∧ zA S 0 2 = some (zB S 2) ∧ zA S 0 8 = some (zB S 13) ∧ zA S 0 13 = some (zB S 14) ∧ zA S 0 14 = some (zB S 15) ∧ zA S 0 15 = some (zB S 16) ∧ zA S 0 16 = some (zB S 19)) ∧
  ((zA S 2 0 = some (zB S 3) ∧ zA S 2 1 = some (zB S 4)) ∧ (zA S 16 0 = some (zB S 17) ∧ zA S 16 1 = some (zB S 18)) ∧ zA S 19 0 = some (zB S 20) ∧ zA S 19 1 = some (zB S 21) ∧ zA S 19 2 = some (zB S 22) ∧ zA S 19 3 = some (zB S 23)) ∧
  (Z 0 1 = F 0 ∧ Z 0 3 = F 3 ∧ Z 0 4 = F 4 ∧ Z 0 5 = F 5 ∧ Z 0 9 = F 27 ∧ Z 0 10 = F 28 ∧ Z 0 17 = F 40)
def xTb (Z : Nat → Int → Int) : Prop := (∃ N, tZ 5 Z N) ∧ ∃ N, tZ 9 Z N
def xFi (S : LbS) (Z : Nat → Int → Int) (F : Nat → Int) (V : Nat → Int → Int) : Prop := ∀ j : Int, 0 ≤ j → j < F 0 →
  zA S 1 j = some (zB S (32 + j.toNat)) ∧ (zK S (32 + j.toNat) = 24 ∧ zA S (32 + j.toNat) 0 = some (zB S (48 + j.toNat))) ∧ (zK S (48 + j.toNat) = 1 ∧ zN S (48 + j.toNat) = 6) ∧ ∀ w : Int, 0 ≤ w → w < 6 → Z (48 + j.toNat) w = V 1 (6 * j + w)
def xSi (Z : Nat → Int → Int) (V : Nat → Int → Int) : Prop := ∀ q : Int, 0 ≤ q → q < 3 → Z 3 q = V 2 q ∧ Z 4 q = V 2 (3 + q)
def xPl (Z : Nat → Int → Int) (V : Nat → Int → Int) : Prop := (∀ k : Int, 0 ≤ k → k < 3 → Z 15 k = V 20 k) ∧ ∀ q : Int, 0 ≤ q → q < 3 → Z 17 q = (if V 21 q = -1 then -1 else V 22 q) ∧ Z 18 q = (if V 21 (3 + q) = -1 then -1 else V 22 (3 + q))
def xFg (N : Nat → Nat) (S : LbS) (Z : Nat → Int → Int) (F : Nat → Int) (V : Nat → Int → Int) : Prop := Z 13 2 = F 25 ∧
  ((F 25 = 0 ∧ zA S 13 1 = some (N 4)) ∨ (zA S 13 1 = some (zB S 24) ∧ zK S 24 = 10 ∧ zN S 24 = 10)) ∧
  ∀ k : Int, 0 ≤ k → k < F 25 → zA S 24 k = some (zB S (64 + k.toNat)) ∧ (zK S (64 + k.toNat) = 1 ∧ zN S (64 + k.toNat) = 3) ∧ ∀ q : Int, 0 ≤ q → q < 3 → Z (64 + k.toNat) q = V 17 (3 * k + q)
def xBd (N : Nat → Nat) (S : LbS) (Z : Nat → Int → Int) (F : Nat → Int) (V : Nat → Int → Int) : Prop := Z 14 2 = F 31 ∧
  ((F 31 = 0 ∧ zA S 14 1 = some (N 4)) ∨ (zA S 14 1 = some (zB S 25) ∧ zK S 25 = 10 ∧ (zN S 25 = 10 ∨ zN S 25 = 15 ∨ zN S 25 = 22 ∨ zN S 25 = 33) ∧ F 31 ≤ zN S 25)) ∧
  ∀ k : Int, 0 ≤ k → k < F 31 → zA S 25 k = some (if V 19 k ≤ 127 then N (6 + (128 + V 19 k).toNat) else zB S (70 + k.toNat)) ∧ (127 < V 19 k → zK S (70 + k.toNat) = 28 ∧ Z (70 + k.toNat) 0 = V 19 k)
def shKd (f : Int) : Nat := if f = 0 then 4 else if f = 1 then 5 else 1
def xSh (S : LbS) (Z : Nat → Int → Int) (V : Nat → Int → Int) : Prop := ∀ i : Int, 0 ≤ i → i < 4 → (V 23 i < 0 ∧ zA S (20 + i.toNat) 1 = none) ∨
  (0 ≤ V 23 i ∧ Z (20 + i.toNat) 0 = V 23 i ∧ zA S (20 + i.toNat) 1 = some (zB S (28 + i.toNat)) ∧ zK S (28 + i.toNat) = shKd (V 23 i) ∧ (zN S (28 + i.toNat) : Int) = V 24 i ∧ ∀ k : Int, 0 ≤ k → k < V 24 i → Z (28 + i.toNat) k = V 25 (60 * i + k))
def xRel (N : Nat → Nat) (x : Nat) (S : LbS) (Z : Nat → Int → Int) (F : Nat → Int) (V : Nat → Int → Int) : Prop := xO x S Z F ∧ xTb Z ∧ xFi S Z F V ∧ xSi Z V ∧ xPl Z V ∧ xFg N S Z F V ∧ xBd N S Z F V ∧ xSh S Z V
section XR
variable {N : Nat → Nat} {x : Nat} {S S' : LbS} {Z Z' : Nat → Int → Int} {F : Nat → Int} {V : Nat → Int → Int}
theorem xRel.o (h : xRel N x S Z F V) : xO x S Z F := h.1
theorem xRel.tb (h : xRel N x S Z F V) : xTb Z := h.2.1
theorem xRel.fi (h : xRel N x S Z F V) : xFi S Z F V := h.2.2.1
theorem xRel.si (h : xRel N x S Z F V) : xSi Z V := h.2.2.2.1
theorem xRel.pl (h : xRel N x S Z F V) : xPl Z V := h.2.2.2.2.1
theorem xRel.fg (h : xRel N x S Z F V) : xFg N S Z F V := h.2.2.2.2.2.1
theorem xRel.bd (h : xRel N x S Z F V) : xBd N S Z F V := h.2.2.2.2.2.2.1
theorem xRel.sh (h : xRel N x S Z F V) : xSh S Z V := h.2.2.2.2.2.2.2
theorem xRel.b0 (h : xRel N x S Z F V) : zB S 0 = x := h.1.1
theorem xRel.T (h : xRel N x S Z F V) : xT S := h.1.2.1
theorem xRel.sp (h : xRel N x S Z F V) : shp S [1, 2, 3, 4, 13, 14, 15, 16, 17, 18, 19, 20, 21, 22, 23] := h.1.2.2.1
theorem xRel.r0 (h : xRel N x S Z F V) : zA S 0 0 = some (zB S 1) := h.1.2.2.2.1.1
theorem xRel.r2 (h : xRel N x S Z F V) : zA S 0 2 = some (zB S 2) := h.1.2.2.2.1.2.1
theorem xRel.r8 (h : xRel N x S Z F V) : zA S 0 8 = some (zB S 13) := h.1.2.2.2.1.2.2.1
theorem xRel.r13 (h : xRel N x S Z F V) : zA S 0 13 = some (zB S 14) := h.1.2.2.2.1.2.2.2.1
theorem xRel.r14 (h : xRel N x S Z F V) : zA S 0 14 = some (zB S 15) := h.1.2.2.2.1.2.2.2.2.1
theorem xRel.r15 (h : xRel N x S Z F V) : zA S 0 15 = some (zB S 16) := h.1.2.2.2.1.2.2.2.2.2.1
theorem xRel.r16 (h : xRel N x S Z F V) : zA S 0 16 = some (zB S 19) := h.1.2.2.2.1.2.2.2.2.2.2
theorem xRel.e (h : xRel N x S Z F V) : ((zA S 2 0 = some (zB S 3) ∧ zA S 2 1 = some (zB S 4)) ∧ (zA S 16 0 = some (zB S 17) ∧ zA S 16 1 = some (zB S 18)) ∧ zA S 19 0 = some (zB S 20) ∧ zA S 19 1 = some (zB S 21) ∧ zA S 19 2 = some (zB S 22) ∧ zA S 19 3 = some (zB S 23)) := h.1.2.2.2.2.1
theorem xRel.n (h : xRel N x S Z F V) : Z 0 1 = F 0 ∧ Z 0 3 = F 3 ∧ Z 0 4 = F 4 ∧ Z 0 5 = F 5 ∧ Z 0 9 = F 27 ∧ Z 0 10 = F 28 ∧ Z 0 17 = F 40 := h.1.2.2.2.2.2
theorem xRel.side (h : xRel N x S Z F V) {i : Int} (hi : 0 ≤ i ∧ i ≤ 1) : zA S 2 i = some (zB S (3 + i.toNat)) := by
  have : i = 0 ∨ i = 1 := by omega
  rcases this with rfl | rfl
  · exact h.e.1.1
  · exact h.e.1.2
theorem xRel.pline (h : xRel N x S Z F V) {i : Int} (hi : 0 ≤ i ∧ i ≤ 1) : zA S 16 i = some (zB S (17 + i.toNat)) := by
  have : i = 0 ∨ i = 1 := by omega
  rcases this with rfl | rfl
  · exact h.e.2.1.1
  · exact h.e.2.1.2
theorem xRel.sheet (h : xRel N x S Z F V) {i : Int} (hi : 0 ≤ i ∧ i < 4) : zA S 19 i = some (zB S (20 + i.toNat)) := by
  have : i = 0 ∨ i = 1 ∨ i = 2 ∨ i = 3 := by omega
  rcases this with rfl | rfl | rfl | rfl
  · exact h.e.2.2.1
  · exact h.e.2.2.2.1
  · exact h.e.2.2.2.2.1
  · exact h.e.2.2.2.2.2
theorem xRel.skn (h : xRel N x S Z F V) {i : Int} (hi : 0 ≤ i ∧ i < 4) : zK S (20 + i.toNat) = 22 := by
  have : i = 0 ∨ i = 1 ∨ i = 2 ∨ i = 3 := by omega
  rcases this with rfl | rfl | rfl | rfl
  · exact h.sp.k 20 rfl
  · exact h.sp.k 21 rfl
  · exact h.sp.k 22 rfl
  · exact h.sp.k 23 rfl
theorem xRel.rown (h : xRel N x S Z F V) {i : Int} (hi : 0 ≤ i ∧ i ≤ 1) : (zK S (3 + i.toNat) = 1 ∧ zN S (3 + i.toNat) = 3) ∧ zK S (17 + i.toNat) = 1 ∧ zN S (17 + i.toNat) = 3 := by
  have : i = 0 ∨ i = 1 := by omega
  rcases this with rfl | rfl
  · exact ⟨⟨h.sp.k 3 rfl, h.sp.n 3 rfl⟩, h.sp.k 17 rfl, h.sp.n 17 rfl⟩
  · exact ⟨⟨h.sp.k 4 rfl, h.sp.n 4 rfl⟩, h.sp.k 18 rfl, h.sp.n 18 rfl⟩
theorem xRel.sval (h : xRel N x S Z F V) {i q : Int} (hi : 0 ≤ i ∧ i ≤ 1) (hq : 0 ≤ q ∧ q < 3) : Z (3 + i.toNat) q = V 2 (3 * i + q) := by
  have hs := h.si q hq.1 hq.2
  have : i = 0 ∨ i = 1 := by omega
  rcases this with rfl | rfl
  · rw [show 3 * (0 : Int) + q = q by omega]
    exact hs.1
  · rw [show 3 * (1 : Int) + q = 3 + q by omega]
    exact hs.2
/-- what a fight looked at leaves as it was -/
def xk (S : LbS) (Z : Nat → Int → Int) (S' : LbS) (Z' : Nat → Int → Int) : Prop := (∀ k, (k < 200 ∨ 222 ≤ k) → (k ∉ ([0, 5, 6, 7, 8, 9, 10, 11, 12] : List Nat)) → sk S Z S' Z' k) ∧ (zB S' 0 = zB S 0 ∧ (∀ j : Int, j ≠ 6 → j ≠ 7 → zA S' 0 j = zA S 0 j) ∧ Z' 0 = Z 0) ∧ xT S' ∧ xTb Z'
theorem xk.tr {S1 S2 : LbS} {Z1 Z2 : Nat → Int → Int} (h1 : xk S Z S1 Z1) (h2 : xk S1 Z1 S2 Z2) : xk S Z S2 Z2 :=
  ⟨fun k a b => (h1.1 k a b).tr (h2.1 k a b), ⟨h2.2.1.1.trans h1.2.1.1, fun j a b => (h2.2.1.2.1 j a b).trans (h1.2.1.2.1 j a b), h2.2.1.2.2.trans h1.2.1.2.2⟩, h2.2.2⟩
theorem xRel.xk (h : xRel N x S Z F V) (hI : SI F V) (hk : xk S Z S' Z') : xRel N x S' Z' F V := by
  have hn := hI.nums
  obtain ⟨h1, ⟨h2, h3, h4⟩, h5, h6⟩ := hk
  have B := fun k (a : k < 200) (b : k ∉ ([0, 5, 6, 7, 8, 9, 10, 11, 12] : List Nat)) => (h1 k (Or.inl a) b).1
  have K := fun k (a : k < 200) (b : k ∉ ([0, 5, 6, 7, 8, 9, 10, 11, 12] : List Nat)) => (h1 k (Or.inl a) b).2.1
  have L := fun k (a : k < 200) (b : k ∉ ([0, 5, 6, 7, 8, 9, 10, 11, 12] : List Nat)) => (h1 k (Or.inl a) b).2.2.1
  have A := fun k (a : k < 200) (b : k ∉ ([0, 5, 6, 7, 8, 9, 10, 11, 12] : List Nat)) => (h1 k (Or.inl a) b).2.2.2.1
  have W := fun k (a : k < 200) (b : k ∉ ([0, 5, 6, 7, 8, 9, 10, 11, 12] : List Nat)) => (h1 k (Or.inl a) b).2.2.2.2
  refine ⟨⟨h2.trans h.b0, h5, fun k hk => ?_, ?_, ?_, ?_⟩, h6, fun j a b => ?_, fun q a b => ?_, ⟨fun k a b => ?_, fun q a b => ?_⟩, ⟨?_, ?_, fun k a b => ?_⟩, ⟨?_, ?_, fun k a b => ?_⟩, fun i a b => ?_⟩
  · have hk' := hk
    simp at hk'
    rw [K k (by omega) (by simp; omega), L k (by omega) (by simp; omega)]
    exact h.sp k hk
  · rw [h3 0 (by decide) (by decide), h3 2 (by decide) (by decide), h3 8 (by decide) (by decide), h3 13 (by decide) (by decide), h3 14 (by decide) (by decide), h3 15 (by decide) (by decide), h3 16 (by decide) (by decide), B 1 (by decide) (by decide), B 2 (by decide) (by decide), B 13 (by decide) (by decide), B 14 (by decide) (by decide), B 15 (by decide) (by decide), B 16 (by decide) (by decide), B 19 (by decide) (by decide)]
    exact h.o.2.2.2.1
  · rw [A 2 (by decide) (by decide), A 16 (by decide) (by decide), A 19 (by decide) (by decide), B 3 (by decide) (by decide), B 4 (by decide) (by decide), B 17 (by decide) (by decide), B 18 (by decide) (by decide), B 20 (by decide) (by decide), B 21 (by decide) (by decide), B 22 (by decide) (by decide), B 23 (by decide) (by decide)]
    exact h.e
  · rw [h4]
    exact h.n
  · rw [A 1 (by decide) (by decide), B (32 + j.toNat) (by omega) (by simp; omega), K (32 + j.toNat) (by omega) (by simp; omega), A (32 + j.toNat) (by omega) (by simp; omega), B (48 + j.toNat) (by omega) (by simp; omega), K (48 + j.toNat) (by omega) (by simp; omega), L (48 + j.toNat) (by omega) (by simp; omega), W (48 + j.toNat) (by omega) (by simp; omega)]
    exact h.fi j a b
  · rw [W 3 (by decide) (by decide), W 4 (by decide) (by decide)]
    exact h.si q a b
  · rw [W 15 (by decide) (by decide)]
    exact h.pl.1 k a b
  · rw [W 17 (by decide) (by decide), W 18 (by decide) (by decide)]
    exact h.pl.2 q a b
  · rw [W 13 (by decide) (by decide)]
    exact h.fg.1
  · rw [A 13 (by decide) (by decide), B 24 (by decide) (by decide), K 24 (by decide) (by decide), L 24 (by decide) (by decide)]
    exact h.fg.2.1
  · rw [A 24 (by decide) (by decide), B (64 + k.toNat) (by omega) (by simp; omega), K (64 + k.toNat) (by omega) (by simp; omega), L (64 + k.toNat) (by omega) (by simp; omega), W (64 + k.toNat) (by omega) (by simp; omega)]
    exact h.fg.2.2 k a b
  · rw [W 14 (by decide) (by decide)]
    exact h.bd.1
  · rw [A 14 (by decide) (by decide), B 25 (by decide) (by decide), K 25 (by decide) (by decide), L 25 (by decide) (by decide)]
    exact h.bd.2.1
  · rw [A 25 (by decide) (by decide), B (70 + k.toNat) (by omega) (by simp; omega), K (70 + k.toNat) (by omega) (by simp; omega), W (70 + k.toNat) (by omega) (by simp; omega)]
    exact h.bd.2.2 k a b
  · have e1 : 20 + i.toNat < 200 := by omega
    rw [A (20 + i.toNat) (by omega) (by simp; omega), W (20 + i.toNat) (by omega) (by simp; omega), B (28 + i.toNat) (by omega) (by simp; omega), K (28 + i.toNat) (by omega) (by simp; omega), L (28 + i.toNat) (by omega) (by simp; omega), W (28 + i.toNat) (by omega) (by simp; omega)]
    exact h.sh i a b
end XR
