/-! WHAT THE ODDS' CALLS ANSWER -/
def suS (F : Nat → Int) (V : Nat → Int → Int) (wh : Int → Int) (bo st : Int) : Int → Int → Int := suF (V 1) wh bo (F 4) st (F 3)
def slS (F : Nat → Int) (Su : Int → Int → Int) : Int := F 3 * Su 6 2
def oddW (F : Nat → Int) (V : Nat → Int → Int) (wh : Int → Int) (bo st : Int) : Int := oddF (suS F V wh bo st) (slS F (suS F V wh bo st))
abbrev scW : List Nat := [8, 9, 13, 16, 23]
abbrev scX : List Nat := [3, 4, 5, 6, 7, 8, 9, 10, 11, 12, 13, 14, 15, 16]
/-- who stands in the slots is in order -/
def whOk (F : Nat → Int) (wh : Int → Int) : Prop := ∀ j : Int, 0 ≤ j → j < 6 → -1 ≤ wh j ∧ wh j < F 0
theorem SI.w2 {F : Nat → Int} {V : Nat → Int → Int} (h : SI F V) : whOk F (V 2) := fun j a b => by
  obtain ⟨h1, h2⟩ := h.2.2.1
  unfold rowA at h1 h2
  have : j = 0 ∨ j = 1 ∨ j = 2 ∨ j = 3 ∨ j = 4 ∨ j = 5 := by omega
  rcases this with rfl | rfl | rfl | rfl | rfl | rfl <;> omega
/-- of the setting -/
theorem suS_ok {F : Nat → Int} {V : Nat → Int → Int} (hI : SI F V) {wh : Int → Int} (hw : whOk F wh) {bo st : Int} (hbo : 0 ≤ bo ∧ bo ≤ 9) (hst : -1 ≤ st ∧ st ≤ 1) :
    okSu (suS F V wh bo st) ∧ (winF (U0 (suS F V wh bo st)) = 2 → 0 < suS F V wh bo st 6 2 ∧ 1 ≤ slS F (suS F V wh bo st)) ∧ (0 ≤ slS F (suS F V wh bo st) ∧ slS F (suS F V wh bo st) ≤ 36) := by
  let Fx : Nat → Int := va_up F 8 st
  let Vx : Nat → Int → Int := va_up (va_up V 3 wh) 4 (fun j => if j < 3 then bo else 0)
  have hI' : SI Fx Vx := hI.ch (ch.rf.up 8 _ (by decide)) ((ch.rf.up 3 _ (by decide)).up 4 _ (by decide))
  have h := wk.of (F := Fx) (V := Vx) (wh := wh) (bo := bo) (Su := suS F V wh bo st) (sl := slS F (suS F V wh bo st)) (F' := va_up Fx 9 ((ordA (Vx 3) (fun j => Vx 1 (6 * Vx 3 j + 5)) (Vx 5) 6).2 : Int)) (V' := va_up (va_up (va_up Vx 5 (ordA (Vx 3) (fun j => Vx 1 (6 * Vx 3 j + 5)) (Vx 5) 6).1) 6 (fun k => if Vx 3 k = -1 then 0 else Vx 1 (6 * Vx 3 k + 1))) 7 (fun k => if Vx 3 k = -1 then 0 else 1))
    rfl rfl hI' hw (fun _ _ _ => rfl) hbo (fun _ _ _ => rfl) hst ⟨ch.rf.up 9 _ (by decide), ((ch.rf.up 5 _ (by decide)).up 6 _ (by decide)).up 7 _ (by decide), rfl, rfl, fun k _ _ => ⟨rfl, rfl⟩⟩
  exact ⟨h.1.ok, fun q => by have := h.2.2.2.2.2.2 q; exact ⟨by omega, this.2⟩, h.2.2.2.2.2.1⟩
theorem oddW_rg {F : Nat → Int} {V : Nat → Int → Int} (hI : SI F V) {wh : Int → Int} (hw : whOk F wh) {bo st : Int} (hbo : 0 ≤ bo ∧ bo ≤ 9) (hst : -1 ≤ st ∧ st ≤ 1) : oddW F V wh bo st = -5 ∨ (0 ≤ oddW F V wh bo st ∧ oddW F V wh bo st ≤ 1000000) := by
  obtain ⟨h1, h2, h3⟩ := suS_ok hI hw hbo hst
  unfold oddW oddF
  split
  · exact Or.inl rfl
  · exact Or.inr (chS_rg h1 (fun q => (h2 q).1) h3.1).1
/-- the arrays ahead of works: (Fx, Vx) stem from (F, V) -/
def PW (F : Nat → Int) (V : Nat → Int → Int) (wh : Int → Int) (bo st : Int) (Fx : Nat → Int) (Vx : Nat → Int → Int) : Prop :=
  (SI F V ∧ whOk F wh ∧ (0 ≤ bo ∧ bo ≤ 9) ∧ (-1 ≤ st ∧ st ≤ 1)) ∧ (ch F Fx [8] ∧ ch V Vx [3, 4] ∧ Fx 8 = st) ∧ (∀ j : Int, 0 ≤ j → j < 6 → Vx 3 j = wh j) ∧ (∀ j : Int, 0 ≤ j → j < 6 → Vx 4 j = if j < 3 then bo else 0)
theorem PW.su {F Fx : Nat → Int} {V Vx : Nat → Int → Int} {wh : Int → Int} {bo st : Int} (h : PW F V wh bo st Fx Vx) : suS F V wh bo st = suF (Vx 1) wh bo (Fx 4) (Fx 8) (Fx 3) := by
  obtain ⟨_, ⟨h1, h2, h3⟩, _⟩ := h
  rw [h2 1 (by decide), h1 4 (by decide), h3, h1 3 (by decide)]
  rfl
theorem PW.sl {F Fx : Nat → Int} {V Vx : Nat → Int → Int} {wh : Int → Int} {bo st : Int} (h : PW F V wh bo st Fx Vx) : slS F (suS F V wh bo st) = Fx 3 * suS F V wh bo st 6 2 := by
  obtain ⟨_, ⟨h1, h2, h3⟩, _⟩ := h
  rw [h1 3 (by decide)]
  rfl
theorem PW.I {F Fx : Nat → Int} {V Vx : Nat → Int → Int} {wh : Int → Int} {bo st : Int} (h : PW F V wh bo st Fx Vx) : SI Fx Vx := h.1.1.ch (ch.wd h.2.1.1 (by decide)) (ch.wd h.2.1.2.1 (by decide))
theorem PW.W {F Fx : Nat → Int} {V Vx : Nat → Int → Int} {wh : Int → Int} {bo st : Int} (h : PW F V wh bo st Fx Vx) : ∀ j : Int, 0 ≤ j → j < 6 → -1 ≤ Vx 3 j ∧ Vx 3 j < Fx 0 := fun j a b => by
  rw [h.2.2.1 j a b, h.2.1.1 0 (by decide)]
  exact h.1.2.1 j a b
theorem PW.st {F Fx : Nat → Int} {V Vx : Nat → Int → Int} {wh : Int → Int} {bo st : Int} (h : PW F V wh bo st Fx Vx) : -1 ≤ Fx 8 ∧ Fx 8 ≤ 1 := by rw [h.2.1.2.2]; exact h.1.2.2.2
/-- .. and behind them -/
def WKP (F : Nat → Int) (V : Nat → Int → Int) (wh : Int → Int) (bo st r : Int) (F' : Nat → Int) (V' : Nat → Int → Int) : Prop :=
  (ch F F' scW ∧ ch V V' scX) ∧ F' 3 * F' 9 = slS F (suS F V wh bo st) ∧
  ((r = -5 ∧ wideI (suS F V wh bo st) (slS F (suS F V wh bo st)) = 1) ∨
   (r = 0 ∧ wideI (suS F V wh bo st) (slS F (suS F V wh bo st)) = 0 ∧ (0 ≤ slS F (suS F V wh bo st) ∧ slS F (suS F V wh bo st) ≤ 22) ∧ F' 23 = widestF (suS F V wh bo st) (slS F (suS F V wh bo st)) ∧
    acR V' (resZ (suS F V wh bo st) (slS F (suS F V wh bo st)) z3) ∧ V' 16 (slS F (suS F V wh bo st)) = 6 ^ (slS F (suS F V wh bo st)).toNat ∧
    (0 ≤ V' 13 0 ∧ V' 13 0 ≤ 6 ^ (slS F (suS F V wh bo st)).toNat) ∧ 0 < (6 : Int) ^ (slS F (suS F V wh bo st)).toNat ∧ (6 : Int) ^ (slS F (suS F V wh bo st)).toNat ≤ 131621703842267136))
theorem PW.post {F Fx F' : Nat → Int} {V Vx V' : Nat → Int → Int} {wh : Int → Int} {bo st r : Int} (h : PW F V wh bo st Fx Vx)
    (q : ch Fx F' [9, 13, 16, 23] ∧ ch Vx V' [5, 6, 7, 8, 9, 10, 11, 12, 13, 14, 15, 16] ∧ F' 9 = suS F V wh bo st 6 2 ∧ ((r = -5 ∧ wideP (suS F V wh bo st) (slS F (suS F V wh bo st))) ∨ (r = 0 ∧ ¬ wideP (suS F V wh bo st) (slS F (suS F V wh bo st)) ∧ F' 23 = widestF (suS F V wh bo st) (slS F (suS F V wh bo st)) ∧ acR V' (resZ (suS F V wh bo st) (slS F (suS F V wh bo st)) z3) ∧ ∀ k : Int, 0 ≤ k → k ≤ slS F (suS F V wh bo st) → V' 16 k = 6 ^ k.toNat))) :
    WKP F V wh bo st r F' V' := by
  obtain ⟨h1, h2, h3, h4⟩ := q
  obtain ⟨s1, s2, s3⟩ := suS_ok h.1.1 h.1.2.1 h.1.2.2.1 h.1.2.2.2
  refine ⟨⟨ch.tr h.2.1.1 h1 (by decide), ch.tr h.2.1.2.1 h2 (by decide)⟩, ?_, ?_⟩
  · rw [h3, h1 3 (by decide), h.2.1.1 3 (by decide)]
    rfl
  · rcases h4 with ⟨a, b⟩ | ⟨a, b, c, d, e⟩
    · rcases wide_iff (suS F V wh bo st) (slS F (suS F V wh bo st)) with z | z
      · exact Or.inl ⟨a, z.1⟩
      · exact absurd b z.2
    · rcases wide_iff (suS F V wh bo st) (slS F (suS F V wh bo st)) with z | z
      · exact absurd z.2 b
      · have h22 : slS F (suS F V wh bo st) ≤ 22 := Int.le_of_not_gt (fun w => b (Or.inl w))
        have hr := (chS_rg s1 (fun q => (s2 q).1) s3.1).2
        rw [← d.1 0 (by decide) (by decide)] at hr
        exact Or.inr ⟨a, z.1, ⟨s3.1, h22⟩, c, d, e _ s3.1 (Int.le_refl _), hr, pow6 _, pow6_22 h22⟩
theorem WKP.wide {F F' : Nat → Int} {V V' : Nat → Int → Int} {wh : Int → Int} {bo st r : Int} (h : WKP F V wh bo st r F' V') (hr : r ≠ 0) : oddW F V wh bo st = -5 ∧ wideI (suS F V wh bo st) (slS F (suS F V wh bo st)) = 1 := by
  rcases h.2.2 with q | q
  · exact ⟨by unfold oddW oddF; rw [if_pos q.2], q.2⟩
  · exact absurd q.1 hr
theorem WKP.odd {F F' : Nat → Int} {V V' : Nat → Int → Int} {wh : Int → Int} {bo st r : Int} (h : WKP F V wh bo st r F' V') (hr : r = 0) : oddW F V wh bo st = V' 13 0 * 1000000 / 6 ^ (slS F (suS F V wh bo st)).toNat := by
  rcases h.2.2 with q | q
  · omega
  · unfold oddW oddF chS
    rw [if_neg (by omega), q.2.2.2.2.1.1 0 (by decide) (by decide)]
theorem WKP.fine {F F' : Nat → Int} {V V' : Nat → Int → Int} {wh : Int → Int} {bo st r : Int} (h : WKP F V wh bo st r F' V') (hr : r = 0) : wideI (suS F V wh bo st) (slS F (suS F V wh bo st)) = 0 ∧ (0 ≤ slS F (suS F V wh bo st) ∧ slS F (suS F V wh bo st) ≤ 22) ∧ F' 23 = widestF (suS F V wh bo st) (slS F (suS F V wh bo st)) ∧
    acR V' (resZ (suS F V wh bo st) (slS F (suS F V wh bo st)) z3) ∧ V' 16 (slS F (suS F V wh bo st)) = 6 ^ (slS F (suS F V wh bo st)).toNat ∧
    (0 ≤ V' 13 0 ∧ V' 13 0 ≤ 6 ^ (slS F (suS F V wh bo st)).toNat) ∧ 0 < (6 : Int) ^ (slS F (suS F V wh bo st)).toNat ∧ (6 : Int) ^ (slS F (suS F V wh bo st)).toNat ≤ 131621703842267136 := by
  rcases h.2.2 with q | q
  · omega
  · exact q.2
/-- a division goes on by a digit -/
theorem dig_s {x q : Int} (hq : 0 < q) : 10 * (x / q) + 10 * (x % q) / q = x * 10 / q ∧ 10 * (x % q) % q = x * 10 % q := by
  have e : x * 10 = 10 * (x % q) + q * (10 * (x / q)) := by
    have := Int.mul_ediv_add_emod x q
    have h2 : q * (10 * (x / q)) = 10 * (q * (x / q)) := by rw [Int.mul_left_comm]
    omega
  rw [e, Int.add_mul_ediv_left _ _ (by omega), Int.add_mul_emod_self_left]
  exact ⟨by omega, rfl⟩
def p10 (e : Int) (n : Nat) : Int := e * 10 ^ n
theorem p10_s (e : Int) (n : Nat) : p10 e (n + 1) = p10 e n * 10 := by unfold p10; rw [Int.pow_succ, Int.mul_assoc]
def op_slots (F : Nat → Int) (V : Nat → Int → Int) : OT := (F 3 * suS F V (V 2) 0 (F 5) 6 2, F, V)
def suN (F : Nat → Int) (V : Nat → Int → Int) : Int → Int → Int := suS F V (V 2) 0 (F 5)
def op_all (F : Nat → Int) (V : Nat → Int → Int) : OT := (if wideI (suN F V) (slS F (suN F V)) = 1 then -9223372036854775803 else 6 ^ (slS F (suN F V)).toNat, F, V)
def op_ways (F : Nat → Int) (V : Nat → Int → Int) (e : Int) : OT := (if 0 ≤ e ∧ e ≤ 2 then (if wideI (suN F V) (slS F (suN F V)) = 1 then -9223372036854775803 else (resZ (suN F V) (slS F (suN F V)) z3).1 e) else -9223372036854775806, F, V)
def op_chance (F : Nat → Int) (V : Nat → Int → Int) : OT := (oddW F V (V 2) 0 (F 5), F, V)
def op_left (F : Nat → Int) (V : Nat → Int → Int) (s p l u : Int) : OT := (if (0 ≤ s ∧ s ≤ 1) ∧ (0 ≤ p ∧ p ≤ 2) ∧ (0 ≤ l ∧ l ≤ 20) ∧ (0 ≤ u ∧ u ≤ 1) ∧ V 2 (3 * s + p) ≠ -1 then (if wideI (suN F V) (slS F (suN F V)) = 1 then -9223372036854775803 else (resZ (suN F V) (slS F (suN F V)) z3).2.2 (42 * (3 * s + p) + 2 * l + u)) else -9223372036854775806, F, V)
def op_states (F : Nat → Int) (V : Nat → Int → Int) : OT := (if wideI (suN F V) (slS F (suN F V)) = 1 then -5 else widestF (suN F V) (slS F (suN F V)), F, V)
def op_ends (F : Nat → Int) (V : Nat → Int → Int) (r : Int) : OT := (if 0 ≤ r ∧ r ≤ F 3 then (if wideI (suN F V) (slS F (suN F V)) = 1 then -9223372036854775803 else (resZ (suN F V) (slS F (suN F V)) z3).2.1 r) else -9223372036854775806, F, V)
def upN (V : Nat → Int → Int) (f w : Int) : Nat → Int → Int := va_up V 1 (uI (V 1) (6 * f + w) (V 1 (6 * f + w) + 1))
def op_better (F : Nat → Int) (V : Nat → Int → Int) (f w : Int) : OT := (if (0 ≤ f ∧ f < F 0) ∧ (1 ≤ w ∧ w ≤ 5) ∧ numF w (V 1 (6 * f + w) + 1) = 1 then (if oddW F V (V 2) 0 (F 5) = -5 ∨ oddW F (upN V f w) (V 2) 0 (F 5) = -5 then -2147483647 else oddW F (upN V f w) (V 2) 0 (F 5) - oddW F V (V 2) 0 (F 5)) else -2147483648, F, V)
/-- the heroes without one -/
def whW (V : Nat → Int → Int) (p j : Int) : Int := if j = 2 then -1 else if p ≤ j ∧ j < 2 then V 2 (j + 1) else V 2 j
def op_without (F : Nat → Int) (V : Nat → Int → Int) (p : Int) : OT := (if (0 ≤ p ∧ p ≤ 2) ∧ V 2 p ≠ -1 then oddW F V (whW V p) 0 (F 5) else -2, F, V)
def op_surprised (F : Nat → Int) (V : Nat → Int → Int) (s : Int) : OT := (if -1 ≤ s ∧ s ≤ 1 then oddW F V (V 2) 0 s else -2, F, V)
/-- the heroes against the foes of a fight -/
def whO (V : Nat → Int → Int) (i j : Int) : Int := if 3 ≤ j then V 17 (3 * i + (j - 3)) else V 2 j
def oddO (F : Nat → Int) (V : Nat → Int → Int) (i b : Int) : Int := oddW F V (whO V i) (if b = 0 then 0 else F 28) (F 5)
def op_odds (F : Nat → Int) (V : Nat → Int → Int) (i b : Int) : OT := (if (0 ≤ i ∧ i < F 25) ∧ 0 ≤ b ∧ b ≤ 1 then (if V 2 0 = -1 then -3 else oddO F V i b) else -2, F, V)
theorem SI.wO {F : Nat → Int} {V : Nat → Int → Int} (h : SI F V) {i : Int} (hi : 0 ≤ i ∧ i < F 25) : whOk F (whO V i) := fun j a b => by
  have h1 := (h.2.2.2.1 i hi.1 hi.2).1
  have h2 := h.w2 j a b
  unfold rowA at h1
  unfold whO
  split
  · have : j = 3 ∨ j = 4 ∨ j = 5 := by omega
    rcases this with rfl | rfl | rfl
    · rw [show 3 * i + (3 - 3 : Int) = 3 * i by omega]; omega
    · rw [show 3 * i + (4 - 3 : Int) = 3 * i + 1 by omega]; omega
    · rw [show 3 * i + (5 - 3 : Int) = 3 * i + 2 by omega]; omega
  · exact h2
theorem SI.wW {F : Nat → Int} {V : Nat → Int → Int} (h : SI F V) (p : Int) : whOk F (whW V p) := fun j a b => by
  have hn := h.nums
  unfold whW
  split
  · omega
  · split
    · exact h.w2 (j + 1) (by omega) (by omega)
    · exact h.w2 j a b
theorem uI_back (f : Int → Int) (k x : Int) : uI (uI f k x) k (f k) = f := by
  funext j
  unfold uI
  split
  · rename_i q
    rw [q]
  · rfl
theorem WKP.two {F F' : Nat → Int} {V V' : Nat → Int → Int} {wh : Int → Int} {bo st r : Int} (h : WKP F V wh bo st r F' V') : r = -5 ∨ r = 0 := by
  rcases h.2.2 with q | q
  · exact Or.inl q.1
  · exact Or.inr q.1
