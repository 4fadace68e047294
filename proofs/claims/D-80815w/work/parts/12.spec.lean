/-! WHAT THE CALLS ANSWER: over the model's numbers F and arrays V (the places that last: see SI); both classes are held against these -/
abbrev OT : Type := Int × (Nat → Int) × (Nat → Int → Int)
/-- places that don't last -/
abbrev scF : List Nat := [8, 9, 13, 16, 23, 30]
abbrev scV : List Nat := [3, 4, 5, 6, 7, 8, 9, 10, 11, 12, 13, 14, 15, 16, 18, 26]
def mP (o : OT) (r : Int) (F' : Nat → Int) (V' : Nat → Int → Int) : Prop := r = o.1 ∧ ch o.2.1 F' scF ∧ ch o.2.2 V' scV
def rowA (a b c n : Int) : Prop := -1 ≤ a ∧ a < n ∧ -1 ≤ b ∧ b < n ∧ -1 ≤ c ∧ c < n ∧ (a ≠ -1 ∨ b = -1) ∧ (b ≠ -1 ∨ c = -1)
def rowF (a b c n : Int) : Int := if -1 ≤ a ∧ a < n ∧ -1 ≤ b ∧ b < n ∧ -1 ≤ c ∧ c < n ∧ (a ≠ -1 ∨ b = -1) ∧ (b ≠ -1 ∨ c = -1) then 1 else 0
theorem rowF_of {r a b c n : Int} (h : r = rowF a b c n) : (r = 1 ∧ -1 ≤ a ∧ a < n ∧ -1 ≤ b ∧ b < n ∧ -1 ≤ c ∧ c < n ∧ (a ≠ -1 ∨ b = -1) ∧ (b ≠ -1 ∨ c = -1)) ∨ (r = 0 ∧ ¬ (-1 ≤ a ∧ a < n ∧ -1 ≤ b ∧ b < n ∧ -1 ≤ c ∧ c < n ∧ (a ≠ -1 ∨ b = -1) ∧ (b ≠ -1 ∨ c = -1))) := by
  unfold rowF at h
  split at h
  · exact Or.inl ⟨h, ‹_›⟩
  · exact Or.inr ⟨h, ‹_›⟩
def manyA (a b c : Int) : Int := (if a = -1 then 0 else 1) + (if b = -1 then 0 else 1) + (if c = -1 then 0 else 1)
/-- what lasts is in order -/
def SI (F : Nat → Int) (V : Nat → Int → Int) : Prop :=
  ((0 ≤ F 0 ∧ F 0 ≤ 16) ∧ (1 ≤ F 3 ∧ F 3 ≤ 6) ∧ (0 ≤ F 4 ∧ F 4 ≤ 1) ∧ (-1 ≤ F 5 ∧ F 5 ≤ 1) ∧ (0 ≤ F 25 ∧ F 25 ≤ 6) ∧ (0 ≤ F 27 ∧ F 27 ≤ 6) ∧ (1 ≤ F 28 ∧ F 28 ≤ 9) ∧ (0 ≤ F 31 ∧ F 31 ≤ 27) ∧ (0 ≤ F 40 ∧ F 40 ≤ 5)) ∧
  (∀ f w : Int, 0 ≤ f → f < F 0 → 0 ≤ w → w < 6 → numF w (V 1 (6 * f + w)) = 1) ∧
  (rowA (V 2 0) (V 2 1) (V 2 2) (F 0) ∧ rowA (V 2 3) (V 2 4) (V 2 5) (F 0)) ∧
  (∀ k : Int, 0 ≤ k → k < F 25 → rowA (V 17 (3 * k)) (V 17 (3 * k + 1)) (V 17 (3 * k + 2)) (F 0) ∧ V 17 (3 * k) ≠ -1) ∧
  (∀ k : Int, 0 ≤ k → k < F 31 → 0 ≤ V 19 k ∧ V 19 k ≤ 336) ∧
  (∀ k : Int, 0 ≤ k → k < 3 → 0 ≤ V 20 k ∧ V 20 k ≤ 60) ∧
  (∀ k : Int, 0 ≤ k → k < 6 → (-1 ≤ V 21 k ∧ V 21 k ≤ 15) ∧ 0 ≤ V 22 k ∧ V 22 k ≤ 20) ∧
  (∀ k : Int, 0 ≤ k → k < 4 → (-1 ≤ V 23 k ∧ V 23 k ≤ 2) ∧ 0 ≤ V 24 k ∧ V 24 k ≤ 60) ∧
  (∀ k : Int, 0 ≤ k → k < 240 → -2147483648 ≤ V 25 k ∧ V 25 k ≤ 2147483647)
theorem SI.nums {F : Nat → Int} {V : Nat → Int → Int} (h : SI F V) : (0 ≤ F 0 ∧ F 0 ≤ 16) ∧ (1 ≤ F 3 ∧ F 3 ≤ 6) ∧ (0 ≤ F 4 ∧ F 4 ≤ 1) ∧ (-1 ≤ F 5 ∧ F 5 ≤ 1) ∧ (0 ≤ F 25 ∧ F 25 ≤ 6) ∧ (0 ≤ F 27 ∧ F 27 ≤ 6) ∧ (1 ≤ F 28 ∧ F 28 ≤ 9) ∧ (0 ≤ F 31 ∧ F 31 ≤ 27) ∧ (0 ≤ F 40 ∧ F 40 ≤ 5) := h.1
theorem SI.num {F : Nat → Int} {V : Nat → Int → Int} (h : SI F V) {f w : Int} (hf : 0 ≤ f ∧ f < F 0 ∧ 0 ≤ w ∧ w < 6) : numF w (V 1 (6 * f + w)) = 1 := h.2.1 f w hf.1 hf.2.1 hf.2.2.1 hf.2.2.2
/-- it rests on what lasts alone -/
theorem SI.ch {F F' : Nat → Int} {V V' : Nat → Int → Int} (h : SI F V) (hF : ch F F' scF) (hV : ch V V' scV) : SI F' V' := by
  unfold SI at h ⊢
  rw [hF 0 (by decide), hF 3 (by decide), hF 4 (by decide), hF 5 (by decide), hF 25 (by decide), hF 27 (by decide), hF 28 (by decide), hF 31 (by decide), hF 40 (by decide), hV 1 (by decide), hV 2 (by decide), hV 17 (by decide), hV 19 (by decide), hV 20 (by decide), hV 21 (by decide), hV 22 (by decide), hV 23 (by decide), hV 24 (by decide), hV 25 (by decide)]
  exact h
def op_fighter (F : Nat → Int) (V : Nat → Int → Int) (k l h f e s : Int) : OT :=
  if numF 0 k = 1 ∧ numF 1 l = 1 ∧ numF 2 h = 1 ∧ numF 3 f = 1 ∧ numF 4 e = 1 ∧ numF 5 s = 1 then
    if F 0 = 16 then (-4, F, V) else (F 0, va_up F 0 (F 0 + 1), va_up V 1 (uI (uI (uI (uI (uI (uI (V 1) (6 * F 0) k) (6 * F 0 + 1) l) (6 * F 0 + 2) h) (6 * F 0 + 3) f) (6 * F 0 + 4) e) (6 * F 0 + 5) s))
  else (-2, F, V)
def op_about (F : Nat → Int) (V : Nat → Int → Int) (f w : Int) : OT := if (0 ≤ f ∧ f < F 0) ∧ 0 ≤ w ∧ w ≤ 5 then (V 1 (6 * f + w), F, V) else (-2, F, V)
def op_tune (F : Nat → Int) (V : Nat → Int → Int) (f w v : Int) : OT := if (0 ≤ f ∧ f < F 0) ∧ (1 ≤ w ∧ w ≤ 5) ∧ numF w v = 1 then (V 1 (6 * f + w), F, va_up V 1 (uI (V 1) (6 * f + w) v)) else (-2, F, V)
def op_side (F : Nat → Int) (V : Nat → Int → Int) (s a b c : Int) : OT := if (0 ≤ s ∧ s ≤ 1) ∧ rowF a b c (F 0) = 1 then (manyA a b c, F, va_up V 2 (uI (uI (uI (V 2) (3 * s) a) (3 * s + 1) b) (3 * s + 2) c)) else (-2, F, V)
def op_at (F : Nat → Int) (V : Nat → Int → Int) (s k : Int) : OT := if (0 ≤ s ∧ s ≤ 1) ∧ 0 ≤ k ∧ k ≤ 2 then (V 2 (3 * s + k), F, V) else (-2, F, V)
def op_laws (F : Nat → Int) (V : Nat → Int → Int) (n a w : Int) : OT := if (1 ≤ n ∧ n ≤ 6) ∧ (0 ≤ a ∧ a ≤ 1) ∧ -1 ≤ w ∧ w ≤ 1 then (1, va_up (va_up (va_up F 3 n) 4 a) 5 w, V) else (-2, F, V)
def op_fight (F : Nat → Int) (V : Nat → Int → Int) (a b c : Int) : OT := if rowF a b c (F 0) = 1 ∧ a ≠ -1 then (if F 25 = 6 then (-4, F, V) else (F 25 + 1, va_up F 25 (F 25 + 1), va_up V 17 (uI (uI (uI (V 17) (3 * F 25) a) (3 * F 25 + 1) b) (3 * F 25 + 2) c))) else (-2, F, V)
def op_rest (F : Nat → Int) (V : Nat → Int → Int) : OT := (F 25, va_up F 25 0, V)
def op_purse (F : Nat → Int) (V : Nat → Int → Int) (p b : Int) : OT := if (0 ≤ p ∧ p ≤ 6) ∧ 1 ≤ b ∧ b ≤ 9 then (1, va_up (va_up F 27 p) 28 b, V) else (-2, F, V)
def op_band (F : Nat → Int) (V : Nat → Int → Int) (k : Int) : OT := if 0 ≤ k ∧ k < F 31 then (V 19 k, F, V) else (-2, F, V)
def op_played (F : Nat → Int) (V : Nat → Int → Int) (w : Int) : OT := if 0 ≤ w ∧ w ≤ 2 then (V 20 w, F, V) else if (10 ≤ w ∧ w ≤ 15) ∧ V 21 (w - 10) ≠ -1 then (V 22 (w - 10), F, V) else (-2, F, V)
def fin (F : Nat → Int) (k : Int) : Nat → Int := va_up F 40 k
def op_lose (F : Nat → Int) (V : Nat → Int → Int) (s : Int) : OT := if 0 ≤ s ∧ s ≤ 3 then (if V 23 s < 0 then (-11, fin F 1, V) else (V 24 s, F, va_up V 23 (uI (V 23) s (-1)))) else (-2, F, V)
/-- what an item of a row of a form is when v is laid there -/
def layF (form v : Int) : Int := if form = 0 then (Int8.ofInt v).toInt else if form = 1 then (Int16.ofInt v).toInt else v
def lacksF (F : Nat → Int) (V : Nat → Int → Int) (s form i : Int) : Int := if V 23 s < 0 then 1 else if V 23 s ≠ form then 3 else if 0 ≤ i ∧ i < V 24 s then 0 else 2
def op_put (F : Nat → Int) (V : Nat → Int → Int) (s form i v : Int) : OT := if (0 ≤ s ∧ s ≤ 3) ∧ 0 ≤ form ∧ form ≤ 2 then (if lacksF F V s form i = 0 then (1, F, va_up V 25 (uI (V 25) (60 * s + i) (layF form v))) else (-10 - lacksF F V s form i, fin F (lacksF F V s form i), V)) else (-2, F, V)
def op_get (F : Nat → Int) (V : Nat → Int → Int) (s form i : Int) : OT := if (0 ≤ s ∧ s ≤ 3) ∧ 0 ≤ form ∧ form ≤ 2 then (if lacksF F V s form i = 0 then (V 25 (60 * s + i), F, V) else (-2147483648, fin F (lacksF F V s form i), V)) else (-2147483648, F, V)
/-- k items of a row set to nought -/
def zeroF (f : Int → Int) (o : Int) : Nat → Int → Int
  | 0 => f
  | k + 1 => uI (zeroF f o k) (o + k) 0
def op_sheet (F : Nat → Int) (V : Nat → Int → Int) (s form n : Int) : OT := if (0 ≤ s ∧ s ≤ 3) ∧ (0 ≤ form ∧ form ≤ 2) ∧ n ≤ 60 then (if n < 0 then (-15, fin F 5, V) else (n, F, va_up (va_up (va_up V 23 (uI (V 23) s form)) 24 (uI (V 24) s n)) 25 (zeroF (V 25) (60 * s) n.toNat))) else (-2, F, V)
/-- k items taken from f at i laid into h at o -/
def moveF (f h : Int → Int) (i o : Int) : Nat → Int → Int
  | 0 => h
  | k + 1 => uI (moveF f h i o k) (o + k) (f (i + k))
def op_copy (F : Nat → Int) (V : Nat → Int → Int) (s i t j n : Int) : OT := if (0 ≤ s ∧ s ≤ 3) ∧ 0 ≤ t ∧ t ≤ 3 then (if V 23 s < 0 ∨ V 23 t < 0 then (-11, fin F 1, V) else if V 23 s ≠ V 23 t then (-14, fin F 4, V) else if i < 0 ∨ j < 0 ∨ n < 0 ∨ V 24 s < i + n ∨ V 24 t < j + n then (-12, fin F 2, V) else (1, F, va_up V 25 (moveF (V 25) (V 25) (60 * s + i) (60 * t + j) n.toNat))) else (-2, F, V)
/-- the shaken numbers: the seed behind k steps, the face that it shows -/
def seedF (v : Int) : Nat → Int
  | 0 => v
  | k + 1 => 1103515245 * seedF v k + 12345
def faceF (v : Int) : Int := 1 + (v % 4294967296 / 65536) % 6
def shakeF (f : Int → Int) (o v : Int) : Nat → Int → Int
  | 0 => f
  | k + 1 => uI (shakeF f o v k) (o + k) (faceF (seedF v (k + 1)))
def op_shake (F : Nat → Int) (V : Nat → Int → Int) (s v : Int) : OT := if 0 ≤ s ∧ s ≤ 3 then (if V 23 s < 0 then (-11, fin F 1, V) else (V 24 s, F, va_up V 25 (shakeF (V 25) (60 * s) v (V 24 s).toNat))) else (-2, F, V)
def countF (F : Nat → Int) (V : Nat → Int → Int) (w : Int) : Int := if w = 0 then F 0 else if w = 1 then manyA (V 2 0) (V 2 1) (V 2 2) else if w = 2 then manyA (V 2 3) (V 2 4) (V 2 5) else if w = 3 then F 3 else if w = 4 then F 4 else if w = 5 then F 25 else if w = 6 then F 40 else if w = 7 then F 5 else if w = 8 then F 27 else if w = 9 then F 28 else -2
/-- a digest goes on over k numbers -/
def digF (f : Int → Int) (h : Int) : Nat → Int
  | 0 => h
  | k + 1 => 31 * digF f h k + f k
/-- .. over the counts, the sixth left out -/
def digC (f : Int → Int) (h : Int) : Nat → Int
  | 0 => h
  | k + 1 => if k = 6 then digC f h k else 31 * digC f h k + f k
def digestF (F : Nat → Int) (V : Nat → Int → Int) : Int := digF (V 20) (digF (V 2) (digF (V 1) (digC (countF F V) 17 10) (6 * F 0).toNat) 6) 3
