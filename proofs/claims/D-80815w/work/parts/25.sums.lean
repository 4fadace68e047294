/-! ALL WAYS COUNTED: they sum to 6 ^ slots -/
def wsm : List (Int × Int) → Int
  | [] => 0
  | x :: xs => x.2 + wsm xs
theorem wsm_ins (c n : Int) : ∀ N : List (Int × Int), wsm (insN N c n) = wsm N + n
  | [] => by show n + 0 = 0 + n; omega
  | x :: xs => by
    have ih := wsm_ins c n xs
    unfold insN
    split
    · show x.2 + n + wsm xs = x.2 + wsm xs + n
      omega
    · show x.2 + wsm (insN xs c n) = x.2 + wsm xs + n
      omega
theorem wsm_app : ∀ X Y : List (Int × Int), wsm (X ++ Y) = wsm X + wsm Y
  | [], Y => by show wsm Y = 0 + wsm Y; omega
  | x :: X, Y => by
    have ih := wsm_app X Y
    show x.2 + wsm (X ++ Y) = x.2 + wsm X + wsm Y
    omega
def posW (N : List (Int × Int)) : Prop := ∀ x ∈ N, 0 < x.2
theorem posW.ins {N : List (Int × Int)} (h : posW N) {c n : Int} (hn : 0 < n) : posW (insN N c n) := by
  induction N with
  | nil =>
    intro x hx
    have : x = (c, n) := by simpa [insN] using hx
    rw [this]
    exact hn
  | cons y ys ih =>
    intro x hx
    unfold insN at hx
    have hy := h y List.mem_cons_self
    split at hx
    · rcases List.mem_cons.mp hx with q | q
      · rw [q]
        show 0 < y.2 + n
        omega
      · exact h x (List.mem_cons_of_mem _ q)
    · rcases List.mem_cons.mp hx with q | q
      · rw [q]
        exact hy
      · exact ih (fun z hz => h z (List.mem_cons_of_mem _ hz)) x q
theorem posW.sum : ∀ {N : List (Int × Int)}, posW N → 0 ≤ wsm N ∧ ∀ x ∈ N, x.2 ≤ wsm N
  | [], _ => ⟨Int.le_refl 0, fun x hx => by cases hx⟩
  | y :: ys, h => by
    have ih := posW.sum (N := ys) (fun z hz => h z (List.mem_cons_of_mem _ hz))
    have hy := h y List.mem_cons_self
    refine ⟨by show 0 ≤ y.2 + wsm ys; omega, fun x hx => ?_⟩
    show x.2 ≤ y.2 + wsm ys
    rcases List.mem_cons.mp hx with q | q
    · rw [q]
      omega
    · have := ih.2 x q
      omega
def ends3 (z : Ac3) : Int := z.1 0 + z.1 1 + z.1 2
def nn3 (z : Ac3) : Prop := 0 ≤ z.1 0 ∧ 0 ≤ z.1 1 ∧ 0 ≤ z.1 2
theorem ends3_cnt {z : Ac3} {e rd n : Int} {L U : Int → Int} (he : 0 ≤ e ∧ e ≤ 2) : ends3 (cnt3 z e rd n L U) = ends3 z + n := by
  have : e = 0 ∨ e = 1 ∨ e = 2 := by omega
  unfold ends3 cnt3
  rcases this with rfl | rfl | rfl <;> simp [uI] <;> omega
theorem nn3.cnt {z : Ac3} (h : nn3 z) {e rd n : Int} {L U : Int → Int} (hn : 0 ≤ n) : nn3 (cnt3 z e rd n L U) := by
  have up : ∀ k : Int, 0 ≤ z.1 k → 0 ≤ (cnt3 z e rd n L U).1 k := fun k hk => by
    show 0 ≤ uI z.1 e (z.1 e + n) k
    unfold uI
    split
    · rename_i q
      subst q
      omega
    · exact hk
  exact ⟨up 0 h.1, up 1 h.2.1, up 2 h.2.2⟩
/-- all ways of a row and of what has ended -/
def Mw (rest : Int) (a : Acc) : Int := wsm a.1 * rest + ends3 a.2
theorem M_abs {rd rest : Int} {a : Acc} {x : Int × Int} : Mw rest (absorb rd rest a x) = Mw rest a + x.2 * rest := by
  have hw := winF_rg (ufD x.1)
  unfold absorb Mw
  split
  · rw [ends3_cnt (by omega)]
    dsimp only
    omega
  · rw [wsm_ins, Int.add_mul]
    dsimp only
    omega
theorem Mw_nil {r : Int} {z : Ac3} : Mw r ([], z) = ends3 z := by
  show 0 * r + ends3 z = _
  omega
theorem M_fold {rd rest : Int} : ∀ (X : List (Int × Int)) (a : Acc), Mw rest (X.foldl (absorb rd rest) a) = Mw rest a + wsm X * rest
  | [], a => by show Mw rest a = Mw rest a + 0 * rest; omega
  | x :: X, a => by
    rw [List.foldl_cons, M_fold X, M_abs]
    show _ = Mw rest a + (x.2 + wsm X) * rest
    rw [Int.add_mul]
    omega
theorem wsm_turn {Su : Int → Int → Int} {k rd c w : Int} (h : 0 ≤ Su 2 k ∧ Su 2 k ≤ 6) : wsm (turnC Su k rd c w) = 6 * w := by
  unfold turnC
  split
  · show 6 * w + 0 = 6 * w
    omega
  · split
    · show 6 * w + 0 = 6 * w
      omega
    · rw [wsm_app]
      have : Su 2 k = 0 ∨ Su 2 k = 1 ∨ Su 2 k = 2 ∨ Su 2 k = 3 ∨ Su 2 k = 4 ∨ Su 2 k = 5 ∨ Su 2 k = 6 := by omega
      rcases this with q | q | q | q | q | q | q <;> rw [q] <;> simp [wsm] <;> omega
theorem pos_turn {Su : Int → Int → Int} {k rd c w : Int} (hw : 0 < w) : posW (turnC Su k rd c w) := by
  intro x hx
  unfold turnC at hx
  split at hx
  · simp at hx
    rw [hx]
    show 0 < 6 * w
    omega
  · split at hx
    · simp at hx
      rw [hx]
      show 0 < 6 * w
      omega
    · rcases List.mem_append.mp hx with hx | hx
      · split at hx
        · simp at hx
          rw [hx]
          exact Int.mul_pos (by omega) hw
        · cases hx
      · split at hx
        · simp at hx
          rw [hx]
          exact Int.mul_pos (by omega) hw
        · cases hx
theorem M_step {Su : Int → Int → Int} {k rd rest : Int} (h : 0 ≤ Su 2 k ∧ Su 2 k ≤ 6) {a : Acc} {s : Int × Int} : Mw rest (stepS Su k rd rest a s) = Mw rest a + s.2 * (6 * rest) := by
  unfold stepS
  rw [M_fold, wsm_turn h, Int.mul_comm 6, Int.mul_assoc]
theorem M_slot {Su : Int → Int → Int} {k rd rest : Int} (h : 0 ≤ Su 2 k ∧ Su 2 k ≤ 6) : ∀ (S : List (Int × Int)) (a : Acc), Mw rest (S.foldl (stepS Su k rd rest) a) = Mw rest a + wsm S * (6 * rest)
  | [], a => by show Mw rest a = Mw rest a + 0 * (6 * rest); omega
  | s :: S, a => by
    rw [List.foldl_cons, M_slot h S, M_step h]
    show _ = Mw rest a + (s.2 + wsm S) * (6 * rest)
    rw [Int.add_mul]
    omega
/-- rows of positive ways, nothing negative has ended -/
def posA (a : Acc) : Prop := posW a.1 ∧ nn3 a.2
theorem posA.abs {a : Acc} (h : posA a) {rd rest : Int} {x : Int × Int} (hx : 0 < x.2) (hr : 0 ≤ rest) : posA (absorb rd rest a x) := by
  unfold absorb
  split
  · exact ⟨h.1, h.2.cnt (Int.mul_nonneg (by omega) hr)⟩
  · exact ⟨h.1.ins hx, h.2⟩
theorem posA.fold {rd rest : Int} (hr : 0 ≤ rest) : ∀ (X : List (Int × Int)) (a : Acc), posA a → posW X → posA (X.foldl (absorb rd rest) a)
  | [], a, h, _ => h
  | x :: X, a, h, hx => posA.fold hr X _ (h.abs (hx x List.mem_cons_self) hr) (fun y hy => hx y (List.mem_cons_of_mem _ hy))
theorem posA.step {Su : Int → Int → Int} {k rd rest : Int} (hr : 0 ≤ rest) {a : Acc} (h : posA a) {s : Int × Int} (hs : 0 < s.2) : posA (stepS Su k rd rest a s) := posA.fold hr _ _ h (pos_turn hs)
theorem posA.slot {Su : Int → Int → Int} {k rd rest : Int} (hr : 0 ≤ rest) : ∀ (S : List (Int × Int)) (a : Acc), posA a → posW S → posA (S.foldl (stepS Su k rd rest) a)
  | [], a, h, _ => h
  | s :: S, a, h, hs => posA.slot hr S _ (h.step hr (hs s List.mem_cons_self)) (fun y hy => hs y (List.mem_cons_of_mem _ hy))
theorem pow6 (n : Nat) : 0 < (6 : Int) ^ n := Int.pow_pos (by decide)
theorem pow6_s {s : Int} (h : 1 ≤ s) : (6 : Int) ^ s.toNat = 6 * 6 ^ (s - 1).toNat := by
  rw [show s.toNat = (s - 1).toNat + 1 by omega, Int.pow_succ, Int.mul_comm]
theorem pow6_le {a b : Nat} (h : a ≤ b) : (6 : Int) ^ a ≤ 6 ^ b := by
  induction b with
  | zero => rw [show a = 0 by omega]; exact Int.le_refl _
  | succ b ih =>
    rcases Nat.lt_or_ge a (b + 1) with q | q
    · have := ih (by omega)
      have h0 := pow6 b
      rw [Int.pow_succ]
      omega
    · rw [show a = b + 1 by omega]
      exact Int.le_refl _
theorem pow6_22 {s : Int} (h : s ≤ 22) : (6 : Int) ^ s.toNat ≤ 131621703842267136 := by
  have := pow6_le (a := s.toNat) (b := 22) (by omega)
  exact Int.le_trans this (by decide)
theorem okSu.hit2 {Su : Int → Int → Int} (hS : okSu Su) {k : Int} (hk : 0 ≤ k ∧ k < 6) : 0 ≤ Su 2 k ∧ Su 2 k ≤ 6 := (hS.1 k hk.1 hk.2).2.2.1
/-- after each slot -/
theorem evo_sum {Su : Int → Int → Int} (hS : okSu Su) (hm : 0 < Su 6 2) {sl : Int} : ∀ t : Nat, (t : Int) ≤ sl → posA (evo Su sl z3 t) ∧ Mw (6 ^ (sl - t).toNat) (evo Su sl z3 t) = 6 ^ sl.toNat
  | 0, h => by
    refine ⟨⟨fun x hx => ?_, ⟨Int.le_refl 0, Int.le_refl 0, Int.le_refl 0⟩⟩, ?_⟩
    · have : x = (pkF (Su 1) (U0 Su) 6, (1 : Int)) := by
        have : x ∈ [(pkF (Su 1) (U0 Su) 6, (1 : Int))] := hx
        simpa using this
      rw [this]
      exact (by decide : (0 : Int) < 1)
    · show (1 + 0) * (6 : Int) ^ (sl - 0).toNat + (0 + 0 + 0) = _
      rw [show sl - 0 = sl by omega]
      omega
  | t + 1, h => by
    obtain ⟨h1, h2⟩ := evo_sum hS hm (sl := sl) t (by omega)
    have hk := hS.turn (t := t) (by omega) hm
    refine ⟨posA.slot (Int.le_of_lt (pow6 _)) _ _ ⟨(fun x hx => by cases hx), h1.2⟩ h1.1, ?_⟩
    show Mw _ ((evo Su sl z3 t).1.foldl (stepS Su (Su 5 (t % Su 6 2)) (t / Su 6 2) (6 ^ (sl - 1 - t).toNat)) ([], (evo Su sl z3 t).2)) = _
    rw [show sl - ((t + 1 : Nat) : Int) = sl - 1 - t by omega, M_slot (hS.hit2 hk), ← h2]
    rw [Mw_nil]
    unfold Mw
    rw [pow6_s (s := sl - t) (by omega), show sl - t - 1 = sl - 1 - t by omega]
    omega
/-- at any place of a slot: no more ways than all -/
theorem mid_sum {Su : Int → Int → Int} (hS : okSu Su) (hm : 0 < Su 6 2) {sl : Int} {t : Nat} (ht : (t : Int) < sl) (i : Nat) :
    posA (((evo Su sl z3 t).1.take i).foldl (stepS Su (Su 5 (t % Su 6 2)) (t / Su 6 2) (6 ^ (sl - 1 - t).toNat)) ([], (evo Su sl z3 t).2)) ∧
    Mw (6 ^ (sl - 1 - t).toNat) (((evo Su sl z3 t).1.take i).foldl (stepS Su (Su 5 (t % Su 6 2)) (t / Su 6 2) (6 ^ (sl - 1 - t).toNat)) ([], (evo Su sl z3 t).2)) + wsm ((evo Su sl z3 t).1.drop i) * (6 * 6 ^ (sl - 1 - t).toNat) = 6 ^ sl.toNat := by
  obtain ⟨h1, h2⟩ := evo_sum hS hm (sl := sl) t (by omega)
  have hk := hS.turn (t := t) (by omega) hm
  refine ⟨posA.slot (Int.le_of_lt (pow6 _)) _ _ ⟨(fun x hx => by cases hx), h1.2⟩ (fun x hx => h1.1 x (List.mem_of_mem_take hx)), ?_⟩
  rw [M_slot (hS.hit2 hk), ← h2]
  have e : wsm (evo Su sl z3 t).1 = wsm ((evo Su sl z3 t).1.take i) + wsm ((evo Su sl z3 t).1.drop i) := by rw [← wsm_app, List.take_append_drop]
  rw [Mw_nil]
  unfold Mw
  rw [pow6_s (s := sl - t) (by omega), show sl - t - 1 = sl - 1 - t by omega, e, Int.add_mul]
  omega
theorem fin_sum : ∀ (S : List (Int × Int)) (z : Ac3), nn3 z → posW S → nn3 (S.foldl fin3 z) ∧ ends3 (S.foldl fin3 z) = ends3 z + wsm S
  | [], z, h, _ => ⟨h, by show ends3 z = ends3 z + 0; omega⟩
  | x :: S, z, h, hp => by
    have hx := hp x List.mem_cons_self
    have ih := fin_sum S (fin3 z x) (h.cnt (Int.le_of_lt hx)) (fun y hy => hp y (List.mem_cons_of_mem _ hy))
    refine ⟨ih.1, ?_⟩
    rw [List.foldl_cons, ih.2]
    unfold fin3
    rw [ends3_cnt (by decide)]
    show _ = ends3 z + (x.2 + wsm S)
    omega
theorem res_sum {Su : Int → Int → Int} (hS : okSu Su) (hm : winF (U0 Su) = 2 → 0 < Su 6 2) {sl : Int} (hsl : 0 ≤ sl) : nn3 (resZ Su sl z3) ∧ ends3 (resZ Su sl z3) = 6 ^ sl.toNat := by
  have hw := winF_rg (U0 Su)
  unfold resZ
  split
  · refine ⟨nn3.cnt ⟨Int.le_refl 0, Int.le_refl 0, Int.le_refl 0⟩ (Int.le_of_lt (pow6 _)), ?_⟩
    rw [ends3_cnt (by omega)]
    show 0 + 0 + 0 + (6 : Int) ^ sl.toNat = _
    omega
  · obtain ⟨h1, h2⟩ := evo_sum hS (hm (by omega)) (sl := sl) sl.toNat (by omega)
    obtain ⟨h3, h4⟩ := fin_sum _ _ h1.2 h1.1
    refine ⟨h3, ?_⟩
    rw [h4, ← h2]
    unfold Mw
    rw [show (sl - (sl.toNat : Int)).toNat = 0 by omega]
    show _ = _ * 1 + _
    omega
/-- WIDE, as a number -/
def wzI (Su : Int → Int → Int) (sl : Int) : Nat → Int
  | 0 => 0
  | t + 1 => if (t : Int) + 1 < sl ∧ 400 < (evo Su sl z3 (t + 1)).1.length then 1 else wzI Su sl t
def wideI (Su : Int → Int → Int) (sl : Int) : Int := if 22 < sl then 1 else if winF (U0 Su) = 2 then wzI Su sl sl.toNat else 0
theorem wzI_of {Su : Int → Int → Int} {sl : Int} : ∀ n : Nat, (wzI Su sl n = 1 ∧ ∃ t : Nat, t < n ∧ (t : Int) + 1 < sl ∧ 400 < (evo Su sl z3 (t + 1)).1.length) ∨ (wzI Su sl n = 0 ∧ ∀ t : Nat, t < n → (t : Int) + 1 < sl → ¬ 400 < (evo Su sl z3 (t + 1)).1.length)
  | 0 => Or.inr ⟨rfl, fun t h => absurd h (Nat.not_lt_zero t)⟩
  | n + 1 => by
    unfold wzI
    split
    · rename_i q
      exact Or.inl ⟨rfl, n, Nat.lt_succ_self n, q⟩
    · rename_i q
      rcases wzI_of (Su := Su) (sl := sl) n with ⟨h, t, h1, h2⟩ | ⟨h, h1⟩
      · exact Or.inl ⟨h, t, by omega, h2⟩
      · refine Or.inr ⟨h, fun t ht h2 h3 => ?_⟩
        rcases Nat.lt_or_ge t n with z | z
        · exact h1 t z h2 h3
        · have : t = n := by omega
          subst this
          exact q ⟨h2, h3⟩
theorem wide_iff (Su : Int → Int → Int) (sl : Int) : (wideI Su sl = 1 ∧ wideP Su sl) ∨ (wideI Su sl = 0 ∧ ¬ wideP Su sl) := by
  unfold wideI wideP
  split
  · exact Or.inl ⟨rfl, Or.inl ‹_›⟩
  · rename_i q
    split
    · rename_i hw
      rcases wzI_of (Su := Su) (sl := sl) sl.toNat with ⟨h, t, h1, h2⟩ | ⟨h, h1⟩
      · exact Or.inl ⟨h, Or.inr ⟨hw, t, h2⟩⟩
      · exact Or.inr ⟨h, fun z => by
          rcases z with z | ⟨_, t, h2, h3⟩
          · exact q z
          · exact h1 t (by omega) h2 h3⟩
    · exact Or.inr ⟨rfl, fun z => by
        rcases z with z | z
        · exact q z
        · exact ‹¬ _› z.1⟩
/-- millionths in which heroes win; -5: too wide -/
def chS (Su : Int → Int → Int) (sl : Int) : Int := (resZ Su sl z3).1 0 * 1000000 / 6 ^ sl.toNat
def oddF (Su : Int → Int → Int) (sl : Int) : Int := if wideI Su sl = 1 then -5 else chS Su sl
theorem chS_rg {Su : Int → Int → Int} (hS : okSu Su) (hm : winF (U0 Su) = 2 → 0 < Su 6 2) {sl : Int} (hsl : 0 ≤ sl) : (0 ≤ chS Su sl ∧ chS Su sl ≤ 1000000) ∧ 0 ≤ (resZ Su sl z3).1 0 ∧ (resZ Su sl z3).1 0 ≤ 6 ^ sl.toNat := by
  obtain ⟨⟨h1, h2, h3⟩, h4⟩ := res_sum hS hm hsl
  unfold ends3 at h4
  have hp := pow6 sl.toNat
  unfold chS
  refine ⟨⟨Int.ediv_nonneg (by omega) (by omega), ?_⟩, h1, by omega⟩
  have : (resZ Su sl z3).1 0 * 1000000 / 6 ^ sl.toNat < 1000001 := Int.ediv_lt_of_lt_mul hp (by omega)
  omega
