/-! WHAT A DAY'S USE, WISHES ARE -/
def anyW (c : Int → Int → Int) : Nat → Int
  | 0 => 0
  | n + 1 => if c n 0 = -5 ∨ c n 1 = -5 then 1 else anyW c n
theorem anyW_01 (c : Int → Int → Int) : ∀ n : Nat, anyW c n = 0 ∨ anyW c n = 1
  | 0 => Or.inl rfl
  | n + 1 => by
    unfold anyW
    split
    · exact Or.inr rfl
    · exact anyW_01 c n
theorem anyW_0 {c : Int → Int → Int} : ∀ {n : Nat}, anyW c n = 0 → ∀ j : Int, 0 ≤ j → j < n → c j 0 ≠ -5 ∧ c j 1 ≠ -5
  | 0, _, j, h1, h2 => by exfalso; omega
  | n + 1, h, j, h1, h2 => by
    unfold anyW at h
    split at h
    · omega
    · rename_i q
      rcases Decidable.em (j = n) with z | z
      · subst z
        exact ⟨fun w => q (Or.inl w), fun w => q (Or.inr w)⟩
      · exact anyW_0 h j h1 (by omega)
/-- once any, always any -/
theorem anyW_1 {c : Int → Int → Int} {n : Nat} (h : anyW c n = 1) : anyW c (n + 1) = 1 := by
  unfold anyW
  split
  · rfl
  · exact h
def sumD (c : Int → Int → Int) (set : Int) : Nat → Int
  | 0 => 0
  | n + 1 => sumD c set n + c n (bitF set n)
def onesD (set : Int) : Nat → Int
  | 0 => 0
  | n + 1 => onesD set n + bitF set n
/-- the best of the first sets: its sum, how many ones it has, itself -/
def dayS (c : Int → Int → Int) (n : Nat) (pu : Int) : Nat → Int × Int × Int
  | 0 => (-1, 0, 0)
  | t + 1 => if onesD t n ≤ pu ∧ ((dayS c n pu t).1 < sumD c t n ∨ (sumD c t n = (dayS c n pu t).1 ∧ onesD t n < (dayS c n pu t).2.1)) then (sumD c t n, onesD t n, t) else dayS c n pu t
theorem sumD_rg {c : Int → Int → Int} {set : Int} : ∀ n : Nat, (∀ j : Int, 0 ≤ j → j < n → (0 ≤ c j 0 ∧ c j 0 ≤ 1000000) ∧ 0 ≤ c j 1 ∧ c j 1 ≤ 1000000) → 0 ≤ sumD c set n ∧ sumD c set n ≤ 1000000 * n
  | 0, _ => ⟨Int.le_refl 0, show (0 : Int) ≤ 1000000 * 0 by decide⟩
  | n + 1, h => by
    have ih := sumD_rg (set := set) n (fun j a b => h j a (by omega))
    have hn := h n (by omega) (by omega)
    unfold sumD
    rcases bitF_01 set n with q | q <;> rw [q] <;> omega
theorem onesD_rg (set : Int) : ∀ n : Nat, 0 ≤ onesD set n ∧ onesD set n ≤ n
  | 0 => ⟨Int.le_refl 0, Int.le_refl 0⟩
  | n + 1 => by
    have ih := onesD_rg set n
    unfold onesD
    rcases bitF_01 set n with q | q <;> rw [q] <;> omega
theorem bitF_0 (k : Int) : bitF 0 k = 0 := by
  unfold bitF
  rw [Int.zero_ediv]
  rfl
theorem onesD_0 : ∀ n : Nat, onesD 0 n = 0
  | 0 => rfl
  | n + 1 => by
    unfold onesD
    rw [onesD_0 n, bitF_0]
    rfl
theorem dayS_rg {c : Int → Int → Int} {n : Nat} {pu : Int} (h : ∀ j : Int, 0 ≤ j → j < n → (0 ≤ c j 0 ∧ c j 0 ≤ 1000000) ∧ 0 ≤ c j 1 ∧ c j 1 ≤ 1000000) (hp : 0 ≤ pu) : ∀ t : Nat, (-1 ≤ (dayS c n pu t).1 ∧ (dayS c n pu t).1 ≤ 1000000 * n) ∧ (0 ≤ (dayS c n pu t).2.1 ∧ (dayS c n pu t).2.1 ≤ n) ∧ (0 ≤ (dayS c n pu t).2.2 ∧ (dayS c n pu t).2.2 ≤ t) ∧ (0 < t → 0 ≤ (dayS c n pu t).1)
  | 0 => ⟨⟨Int.le_refl _, show (-1 : Int) ≤ 1000000 * n by omega⟩, ⟨Int.le_refl 0, show (0 : Int) ≤ n by omega⟩, ⟨Int.le_refl 0, Int.le_refl 0⟩, fun q => absurd q (Nat.lt_irrefl 0)⟩
  | t + 1 => by
    have ih := dayS_rg h hp t
    have hs := sumD_rg (set := t) n h
    have ho := onesD_rg t n
    unfold dayS
    split
    · exact ⟨⟨by dsimp only; omega, by dsimp only; omega⟩, ⟨by dsimp only; omega, by dsimp only; omega⟩, ⟨by dsimp only; omega, by dsimp only; omega⟩, fun _ => by dsimp only; omega⟩
    · rename_i q
      refine ⟨ih.1, ih.2.1, ⟨ih.2.2.1.1, by have := ih.2.2.1.2; omega⟩, fun _ => ?_⟩
      rcases Nat.eq_zero_or_pos t with z | z
      · subst z
        exfalso
        apply q
        refine ⟨by rw [show ((0 : Nat) : Int) = 0 from rfl, onesD_0]; exact hp, Or.inl ?_⟩
        show (-1 : Int) < _
        omega
      · exact ih.2.2.2 z
theorem pow2_6 {n : Int} (h : 0 ≤ n ∧ n ≤ 6) : 1 ≤ (2 : Int) ^ n.toNat ∧ (2 : Int) ^ n.toNat ≤ 64 := by
  have : n.toNat = 0 ∨ n.toNat = 1 ∨ n.toNat = 2 ∨ n.toNat = 3 ∨ n.toNat = 4 ∨ n.toNat = 5 ∨ n.toNat = 6 := by omega
  rcases this with q | q | q | q | q | q | q <;> rw [q] <;> decide
def dayB (F : Nat → Int) (V : Nat → Int → Int) : Int × Int × Int := dayS (oddO F V) (F 25).toNat (F 27) (2 ^ (F 25).toNat : Int).toNat
def dayR (F : Nat → Int) (V : Nat → Int → Int) : Int := if F 25 = 0 ∨ V 2 0 = -1 then -3 else if anyW (oddO F V) (F 25).toNat = 1 then -5 else (dayB F V).1
def op_day (F : Nat → Int) (V : Nat → Int → Int) : OT := (dayR F V, F, V)
def op_use (F : Nat → Int) (V : Nat → Int → Int) : OT := (if dayR F V < 0 then dayR F V else (dayB F V).2.2, F, V)
/-- who stands there to try a wish -/
def whP (V : Nat → Int → Int) (a b j : Int) : Int := if j = 3 then a else if j = 4 then (if b < a then -1 else b) else if j = 5 then -1 else V 2 j
def wStep (F : Nat → Int) (V : Nat → Int → Int) (lo hi a b : Int) (n : (Int → Int) × Int) : (Int → Int) × Int :=
  if lo ≤ oddW F V (whP V a b) 0 (F 5) ∧ oddW F V (whP V a b) 0 (F 5) ≤ hi then (uI n.1 n.2 (if b < a then 256 + 16 * a else 16 * a + b), n.2 + 1) else n
def wIn (F : Nat → Int) (V : Nat → Int → Int) (lo hi a : Int) (n : (Int → Int) × Int) : Nat → (Int → Int) × Int
  | 0 => n
  | t + 1 => wStep F V lo hi a (a - 1 + t) (wIn F V lo hi a n t)
def wN (F : Nat → Int) : Int := if F 0 < 6 then F 0 else 6
def wOut (F : Nat → Int) (V : Nat → Int → Int) (lo hi : Int) : Nat → (Int → Int) × Int
  | 0 => (V 19, 0)
  | a + 1 => wIn F V lo hi a (wOut F V lo hi a) (wN F - a + 1).toNat
def op_wish (F : Nat → Int) (V : Nat → Int → Int) (lo hi : Int) : OT :=
  if (0 ≤ lo ∧ lo ≤ 1000000) ∧ lo ≤ hi ∧ hi ≤ 1000000 then (if V 2 0 = -1 then (-3, F, V) else ((wOut F V lo hi (wN F).toNat).2, va_up F 31 (wOut F V lo hi (wN F).toNat).2, va_up V 19 (wOut F V lo hi (wN F).toNat).1)) else (-2, F, V)
/-- bands in order -/
def bdOk (n : (Int → Int) × Int) (m : Int) : Prop := (0 ≤ n.2 ∧ n.2 ≤ m) ∧ ∀ k : Int, 0 ≤ k → k < n.2 → 0 ≤ n.1 k ∧ n.1 k ≤ 336
theorem bdOk.step {F : Nat → Int} {V : Nat → Int → Int} {lo hi a b m : Int} {n : (Int → Int) × Int} (h : bdOk n m) (ha : 0 ≤ a ∧ a ≤ 5) (hb : -1 ≤ b ∧ b ≤ 5) : bdOk (wStep F V lo hi a b n) (m + 1) := by
  unfold wStep
  split
  · refine ⟨⟨by have := h.1; dsimp only; omega, by have := h.1; dsimp only; omega⟩, fun k h1 h2 => ?_⟩
    have h2 : k < n.2 + 1 := h2
    show 0 ≤ uI n.1 n.2 _ k ∧ uI n.1 n.2 _ k ≤ 336
    unfold uI
    split
    · split <;> omega
    · exact h.2 k h1 (by omega)
  · exact ⟨⟨h.1.1, by have := h.1.2; omega⟩, h.2⟩
theorem bdOk.inn {F : Nat → Int} {V : Nat → Int → Int} {lo hi a m : Int} {n : (Int → Int) × Int} (h : bdOk n m) (ha : 0 ≤ a ∧ a ≤ 5) : ∀ t : Nat, a - 1 + t ≤ 6 → bdOk (wIn F V lo hi a n t) (m + t)
  | 0, _ => by
    show bdOk n (m + 0)
    rw [Int.add_zero]
    exact h
  | t + 1, ht => by
    have := (bdOk.inn (lo := lo) (hi := hi) (F := F) (V := V) h ha t (by omega)).step (F := F) (V := V) (lo := lo) (hi := hi) (b := a - 1 + t) ha (by omega)
    rw [show m + ((t + 1 : Nat) : Int) = m + t + 1 by omega]
    exact this
/-- how many there may be -/
def wMx (a : Nat) : Int := match a with
  | 0 => 0 | 1 => 7 | 2 => 13 | 3 => 18 | 4 => 22 | 5 => 25 | _ => 27
theorem bdOk.out {F : Nat → Int} {V : Nat → Int → Int} {lo hi : Int} (hF : 0 ≤ F 0) : ∀ a : Nat, (a : Int) ≤ wN F → bdOk (wOut F V lo hi a) (wMx a)
  | 0, _ => ⟨⟨Int.le_refl 0, Int.le_refl 0⟩, fun k h1 h2 => by exfalso; have : k < 0 := h2; omega⟩
  | a + 1, h => by
    have hw : wN F ≤ 6 := by unfold wN; split <;> omega
    have ih := bdOk.out (lo := lo) (hi := hi) (V := V) hF a (by omega)
    have := ih.inn (F := F) (V := V) (lo := lo) (hi := hi) (a := a) (by omega) (wN F - a + 1).toNat (by omega)
    refine ⟨⟨this.1.1, Int.le_trans this.1.2 ?_⟩, this.2⟩
    have : a = 0 ∨ a = 1 ∨ a = 2 ∨ a = 3 ∨ a = 4 ∨ a = 5 := by omega
    rcases this with rfl | rfl | rfl | rfl | rfl | rfl <;> simp only [wMx] <;> omega
theorem oddO_cg {F F' : Nat → Int} {V V' : Nat → Int → Int} {i b : Int} {ks kv : List Nat} (hF : ch F F' ks) (hV : ch V V' kv) (hk : (!ks.contains 3 && !ks.contains 4 && !ks.contains 5 && !ks.contains 28) = true) (hv : (!kv.contains 1 && !kv.contains 2 && !kv.contains 17) = true) : oddO F' V' i b = oddO F V i b := by
  simp at hk hv
  have e : whO V' i = whO V i := by
    funext j
    unfold whO
    rw [hV 17 (by simp [hv]), hV 2 (by simp [hv])]
  unfold oddO
  rw [e, hF 28 (by simp [hk]), hF 5 (by simp [hk])]
  unfold oddW suS slS
  rw [hF 3 (by simp [hk]), hF 4 (by simp [hk]), hV 1 (by simp [hv])]
theorem oddO_rg {F : Nat → Int} {V : Nat → Int → Int} (hI : SI F V) {i b : Int} (hi : 0 ≤ i ∧ i < F 25) : oddO F V i b = -5 ∨ (0 ≤ oddO F V i b ∧ oddO F V i b ≤ 1000000) := by
  have hn := hI.nums
  exact oddW_rg hI (hI.wO hi) (by split <;> omega) hn.2.2.2.1
theorem wMx_le {a b : Int} (ha : 0 ≤ a ∧ a ≤ 5) (hb : b ≤ 5) : wMx a.toNat + (b - a + 1) ≤ 26 := by
  have : a = 0 ∨ a = 1 ∨ a = 2 ∨ a = 3 ∨ a = 4 ∨ a = 5 := by omega
  rcases this with rfl | rfl | rfl | rfl | rfl | rfl <;> simp only [wMx, show (0 : Int).toNat = 0 from rfl, show (1 : Int).toNat = 1 from rfl, show (2 : Int).toNat = 2 from rfl, show (3 : Int).toNat = 3 from rfl, show (4 : Int).toNat = 4 from rfl, show (5 : Int).toNat = 5 from rfl] <;> omega
theorem ch_set {α : Type} {f f' : Nat → α} {ks : List Nat} {k : Nat} {x : α} (h : ch f f' (k :: ks)) (e : f' k = x) : ch (va_up f k x) f' ks := fun j hj => by
  rcases Decidable.em (j = k) with q | q
  · subst q
    rw [va_up_self, e]
  · rw [va_up_ne _ _ q]
    exact h j (fun z => by rcases List.mem_cons.mp z with w | w; exact q w; exact hj w)
theorem whP_ok {F : Nat → Int} {V : Nat → Int → Int} (h : SI F V) {a b : Int} (ha : 0 ≤ a ∧ a < F 0) (hb : -1 ≤ b ∧ b < F 0) : whOk F (whP V a b) := fun j h1 h2 => by
  have := h.w2 j h1 h2
  have hn := h.nums
  unfold whP
  (repeat' split) <;> omega
/-- other bands, in order -/
theorem SI_bd {F F' : Nat → Int} {V V' : Nat → Int → Int} (h : SI F V) (hF : ch F F' [8, 9, 13, 16, 23, 31]) (hV : ch V V' [3, 4, 5, 6, 7, 8, 9, 10, 11, 12, 13, 14, 15, 16, 19]) (h1 : 0 ≤ F' 31 ∧ F' 31 ≤ 27) (h2 : ∀ k : Int, 0 ≤ k → k < F' 31 → 0 ≤ V' 19 k ∧ V' 19 k ≤ 336) : SI F' V' := by
  have hn := h.nums
  unfold SI at h ⊢
  rw [hF 0 (by decide), hF 3 (by decide), hF 4 (by decide), hF 5 (by decide), hF 25 (by decide), hF 27 (by decide), hF 28 (by decide), hF 40 (by decide), hV 1 (by decide), hV 2 (by decide), hV 17 (by decide), hV 20 (by decide), hV 21 (by decide), hV 22 (by decide), hV 23 (by decide), hV 24 (by decide), hV 25 (by decide)]
  exact ⟨by omega, h.2.1, h.2.2.1, h.2.2.2.1, h2, h.2.2.2.2.2⟩
