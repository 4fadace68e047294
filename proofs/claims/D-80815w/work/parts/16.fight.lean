/-! A FIGHT, as numbers: life and who is up (by slots 0..5), what a turn does, states as one number, rows of states -/
def winF (U : Int → Int) : Int := if U 0 = 0 ∧ U 1 = 0 ∧ U 2 = 0 then 1 else if U 3 = 0 ∧ U 4 = 0 ∧ U 5 = 0 then 0 else 2
def tstep (L U : Int → Int) (ls b k : Int) : Int := if U k ≠ 0 ∧ (b = -1 ∨ (ls ≠ 0 ∧ L k < L b)) then k else b
def tst (L U : Int → Int) (ls o : Int) : Nat → Int
  | 0 => -1
  | n + 1 => tstep L U ls (tst L U ls o n) (o + n)
def tgt (L U : Int → Int) (ls o : Int) : Int := tst L U ls o 3
def huL (L : Int → Int) (k b : Int) : Int → Int := uI L k (if b < L k then L k - b else 0)
def huU (L U : Int → Int) (k b : Int) : Int → Int := uI U k (if b < L k then 1 else 0)
def aStep (b j : Int) (P : (Int → Int) × (Int → Int)) : (Int → Int) × (Int → Int) := if P.2 j ≠ 0 then (huL P.1 j b, huU P.1 P.2 j b) else P
def aSt (b o : Int) (P : (Int → Int) × (Int → Int)) : Nat → (Int → Int) × (Int → Int)
  | 0 => P
  | n + 1 => aStep b (o + n) (aSt b o P n)
def otherF (k : Int) : Int := if k < 3 then 3 else 0
/-- a hit: kind, force, aim, full lives, lives, who is up, whose -/
def hitP (kd fo aim : Int) (full L U : Int → Int) (k : Int) : (Int → Int) × (Int → Int) :=
  if kd = 0 then (huL L (tgt L U (if aim = 1 then 1 else 0) (otherF k)) fo, huU L U (tgt L U (if aim = 1 then 1 else 0) (otherF k)) fo)
  else if kd = 1 then aSt fo (otherF k) (L, U) 3
  else (uI L (tgt L U 1 (3 - otherF k)) (if full (tgt L U 1 (3 - otherF k)) < L (tgt L U 1 (3 - otherF k)) + fo then full (tgt L U 1 (3 - otherF k)) else L (tgt L U 1 (3 - otherF k)) + fo), U)
/-- lives and who is up, in order -/
def okS (L U : Int → Int) : Prop := ∀ k : Int, 0 ≤ k → k < 6 → (0 ≤ L k ∧ L k ≤ 20) ∧ (U k = 0 ∨ U k = 1)
theorem tst_rg {L U : Int → Int} {ls o : Int} : ∀ n : Nat, tst L U ls o n = -1 ∨ (o ≤ tst L U ls o n ∧ tst L U ls o n < o + n ∧ U (tst L U ls o n) ≠ 0)
  | 0 => Or.inl rfl
  | n + 1 => by
    have ih := tst_rg (L := L) (U := U) (ls := ls) (o := o) n
    rw [show tst L U ls o (n + 1) = tstep L U ls (tst L U ls o n) (o + n) from rfl]
    generalize tst L U ls o n = b at ih ⊢
    unfold tstep
    rcases Classical.em (U (o + n) ≠ 0 ∧ (b = -1 ∨ (ls ≠ 0 ∧ L (o + n) < L b))) with h | h
    · rw [if_pos h]
      exact Or.inr ⟨by omega, by omega, h.1⟩
    · rw [if_neg h]
      rcases ih with h | h
      · exact Or.inl h
      · exact Or.inr ⟨h.1, by omega, h.2.2⟩
theorem tst_some {L U : Int → Int} {ls o : Int} (ho : 0 ≤ o) : ∀ (n : Nat) (j : Nat), j < n → U (o + j) ≠ 0 → tst L U ls o n ≠ -1
  | 0, j, h, _ => absurd h (Nat.not_lt_zero j)
  | n + 1, j, h, hu => by
    have ih := fun q => tst_some (L := L) (U := U) (ls := ls) (o := o) ho n j q hu
    rw [show tst L U ls o (n + 1) = tstep L U ls (tst L U ls o n) (o + n) from rfl]
    generalize tst L U ls o n = b at ih ⊢
    unfold tstep
    rcases Classical.em (U (o + n) ≠ 0 ∧ (b = -1 ∨ (ls ≠ 0 ∧ L (o + n) < L b))) with h2 | h2
    · rw [if_pos h2]
      omega
    · rw [if_neg h2]
      rcases Nat.lt_or_ge j n with q | q
      · exact ih q
      · have : j = n := by omega
        subst this
        exact fun w => h2 ⟨hu, Or.inl w⟩
theorem tgt_rg {L U : Int → Int} {ls o : Int} (ho : 0 ≤ o) (h : U o ≠ 0 ∨ U (o + 1) ≠ 0 ∨ U (o + 2) ≠ 0) : o ≤ tgt L U ls o ∧ tgt L U ls o < o + 3 ∧ U (tgt L U ls o) ≠ 0 := by
  have h1 : tgt L U ls o ≠ -1 := by
    rcases h with h | h | h
    · exact tst_some (L := L) (ls := ls) (o := o) ho 3 0 (by decide) (by simpa using h)
    · exact tst_some (L := L) (ls := ls) (o := o) ho 3 1 (by decide) (by simpa using h)
    · exact tst_some (L := L) (ls := ls) (o := o) ho 3 2 (by decide) (by simpa using h)
  rcases tst_rg (L := L) (U := U) (ls := ls) (o := o) 3 with w | w
  · exact absurd w h1
  · exact ⟨w.1, by have := w.2.1; exact this, w.2.2⟩
theorem okS.hu {L U : Int → Int} (h : okS L U) {k b : Int} (hb : 0 ≤ b) : okS (huL L k b) (huU L U k b) := by
  intro j h1 h2
  have := h j h1 h2
  unfold huL huU uI
  split
  · rename_i q
    subst q
    split <;> omega
  · exact this
theorem okS.aS {b o : Int} {P : (Int → Int) × (Int → Int)} (h : okS P.1 P.2) (hb : 0 ≤ b) : ∀ n : Nat, okS (aSt b o P n).1 (aSt b o P n).2
  | 0 => h
  | n + 1 => by
    have ih := okS.aS (o := o) h hb n
    show okS (aStep b (o + n) (aSt b o P n)).1 (aStep b (o + n) (aSt b o P n)).2
    unfold aStep
    split
    · exact ih.hu hb
    · exact ih
theorem okS.hit {kd fo aim : Int} {full L U : Int → Int} {k : Int} (h : okS L U) (hf : 0 ≤ fo) (hfull : ∀ j : Int, 0 ≤ j → j < 6 → U j ≠ 0 → 0 ≤ full j ∧ full j ≤ 20) (hk : 0 ≤ k ∧ k < 6) (hu : U k ≠ 0) : okS (hitP kd fo aim full L U k).1 (hitP kd fo aim full L U k).2 := by
  unfold hitP
  split
  · exact h.hu hf
  · split
    · exact okS.aS (P := (L, U)) h hf 3
    · have ho : otherF k = 3 ∧ k < 3 ∨ otherF k = 0 ∧ 3 ≤ k := by unfold otherF; split <;> omega
      have ht := tgt_rg (L := L) (U := U) (ls := 1) (o := 3 - otherF k) (by omega) (by
        rcases ho with q | q
        · have : k = 0 ∨ k = 1 ∨ k = 2 := by omega
          rw [q.1]
          rcases this with rfl | rfl | rfl
          · exact Or.inl hu
          · exact Or.inr (Or.inl hu)
          · exact Or.inr (Or.inr hu)
        · have : k = 3 ∨ k = 4 ∨ k = 5 := by omega
          rw [q.1]
          rcases this with rfl | rfl | rfl
          · exact Or.inl hu
          · exact Or.inr (Or.inl hu)
          · exact Or.inr (Or.inr hu))
      have hj := hfull (tgt L U 1 (3 - otherF k)) (by omega) (by omega) ht.2.2
      intro j h1 h2
      have := h j h1 h2
      refine ⟨?_, this.2⟩
      show 0 ≤ uI L _ _ j ∧ uI L _ _ j ≤ 20
      unfold uI
      split
      · rename_i q
        rw [q] at this
        split <;> omega
      · exact this.1
/-- a state as one number: n places of six bits -/
def pkF (L U : Int → Int) : Nat → Int
  | 0 => 0
  | n + 1 => pkF L U n * 64 + (2 * L n + U n)
theorem pkF_rg {L U : Int → Int} : ∀ n : Nat, (∀ k : Int, 0 ≤ k → k < n → (0 ≤ L k ∧ L k < 32) ∧ (U k = 0 ∨ U k = 1)) → 0 ≤ pkF L U n ∧ pkF L U n < 64 ^ n
  | 0, _ => ⟨Int.le_refl 0, show (0 : Int) < 64 ^ 0 by decide⟩
  | n + 1, h => by
    have ih := pkF_rg (L := L) (U := U) n (fun k h1 h2 => h k h1 (by omega))
    have hn := h n (by omega) (by omega)
    show 0 ≤ pkF L U n * 64 + (2 * L n + U n) ∧ pkF L U n * 64 + (2 * L n + U n) < 64 ^ (n + 1)
    rw [Int.pow_succ]
    omega
/-- digits -/
def dgt (c : Int) (i : Nat) : Int := c / 64 ^ i
theorem dgt_0 (c : Int) : dgt c 0 = c := by unfold dgt; rw [Int.pow_zero, Int.ediv_one]
theorem dgt_s (c : Int) (i : Nat) : dgt c (i + 1) = dgt c i / 64 := by
  unfold dgt
  rw [Int.pow_succ, Int.ediv_ediv_of_nonneg (Int.le_of_lt (Int.pow_pos (by decide)))]
theorem dgt_rg {c : Int} (h : 0 ≤ c) (i : Nat) : 0 ≤ dgt c i ∧ dgt c i ≤ c := by
  induction i with
  | zero => rw [dgt_0]; omega
  | succ i ih => rw [dgt_s]; omega
/-- the digit of place k of a packed state -/
theorem pkF_dgt {L U : Int → Int} : ∀ n : Nat, (∀ k : Int, 0 ≤ k → k < n → (0 ≤ L k ∧ L k < 32) ∧ (U k = 0 ∨ U k = 1)) → ∀ k : Nat, k < n → dgt (pkF L U n) (n - 1 - k) % 64 = 2 * L k + U k
  | 0, _, k, hk => absurd hk (Nat.not_lt_zero k)
  | n + 1, h, k, hk => by
    have hn := h n (by omega) (by omega)
    have rg := pkF_rg (L := L) (U := U) n (fun k h1 h2 => h k h1 (by omega))
    have e1 : dgt (pkF L U (n + 1)) 1 = pkF L U n := by
      rw [dgt_s, dgt_0]
      show (pkF L U n * 64 + (2 * L n + U n)) / 64 = _
      omega
    rcases Nat.lt_or_ge k n with q | q
    · have ih := pkF_dgt (L := L) (U := U) n (fun k h1 h2 => h k h1 (by omega)) k q
      have e2 : ∀ i : Nat, dgt (pkF L U (n + 1)) (i + 1) = dgt (pkF L U n) i := by
        intro i
        induction i with
        | zero => rw [e1, dgt_0]
        | succ i hi => rw [dgt_s, hi, dgt_s]
      rw [show n + 1 - 1 - k = (n - 1 - k) + 1 by omega, e2]
      exact ih
    · have : k = n := by omega
      subst this
      rw [show k + 1 - 1 - k = 0 by omega, dgt_0]
      show (pkF L U k * 64 + (2 * L k + U k)) % 64 = _
      omega
def lfD (c k : Int) : Int := dgt c (5 - k).toNat / 2 % 32
def ufD (c k : Int) : Int := dgt c (5 - k).toNat % 2
theorem pk_unpk {L U : Int → Int} (h : okS L U) {k : Int} (hk : 0 ≤ k ∧ k < 6) : lfD (pkF L U 6) k = L k ∧ ufD (pkF L U 6) k = U k := by
  have h1 := pkF_dgt (L := L) (U := U) 6 (fun j h1 h2 => by have := h j h1 h2; omega) k.toNat (by omega)
  rw [show 6 - 1 - k.toNat = (5 - k).toNat by omega, Int.toNat_of_nonneg hk.1] at h1
  have h2 := h k hk.1 hk.2
  unfold lfD ufD
  omega
theorem ufD_01 (c k : Int) : ufD c k = 0 ∨ ufD c k = 1 := by unfold ufD; omega
/-- of functions that agree on the slots -/
theorem pkF_cg {L U L' U' : Int → Int} : ∀ n : Nat, (∀ k : Int, 0 ≤ k → k < n → L' k = L k ∧ U' k = U k) → pkF L' U' n = pkF L U n
  | 0, _ => rfl
  | n + 1, h => by
    have ih := pkF_cg (L := L) (U := U) (L' := L') (U' := U') n (fun k h1 h2 => h k h1 (by omega))
    have hn := h n (by omega) (by omega)
    show pkF L' U' n * 64 + (2 * L' n + U' n) = pkF L U n * 64 + (2 * L n + U n)
    rw [ih, hn.1, hn.2]
/-- n more ways for every fighter as he is -/
def cLf (f L U : Int → Int) (n : Int) : Nat → Int → Int
  | 0 => f
  | k + 1 => uI (cLf f L U n k) (42 * k + 2 * L k + U k) (cLf f L U n k (42 * k + 2 * L k + U k) + n)
/-- the hash of the model's table -/
def hm (x : Int64) : Int := (x.toBitVec.toNat % 2048 : Nat)
theorem hm_rg (x : Int64) : 0 ≤ hm x ∧ hm x < 2048 := by unfold hm; omega
theorem l_and2047m (x : Int64) : x &&& lI 2047 = lI (hm x) := by
  apply Int64.toBitVec_inj.mp
  apply BitVec.eq_of_toNat_eq
  have e1 : (x &&& lI 2047).toBitVec = x.toBitVec &&& 2047#64 := rfl
  have e2 : (lI (hm x)).toBitVec = BitVec.ofNat 64 (x.toBitVec.toNat % 2048) := by
    unfold hm
    rw [lI_N (by omega)]
    rfl
  rw [e1, e2, BitVec.toNat_and, BitVec.toNat_ofNat, BitVec.toNat_ofNat, Nat.mod_eq_of_lt (show x.toBitVec.toNat % 2048 < 2 ^ 64 by omega)]
  exact Nat.and_two_pow_sub_one_eq_mod _ 11
/-- a row of states with their ways: more ways to one -/
def insN : List (Int × Int) → Int → Int → List (Int × Int)
  | [], c, n => [(c, n)]
  | x :: xs, c, n => if x.1 = c then (x.1, x.2 + n) :: xs else x :: insN xs c n
theorem insN_new {c n : Int} : ∀ {N : List (Int × Int)}, (∀ x ∈ N, x.1 ≠ c) → insN N c n = N ++ [(c, n)]
  | [], _ => rfl
  | x :: xs, h => by
    show (if x.1 = c then _ else x :: insN xs c n) = _
    rw [if_neg (h x List.mem_cons_self), insN_new (fun y hy => h y (List.mem_cons_of_mem _ hy))]
    rfl
theorem insN_old {c n w : Int} : ∀ {N : List (Int × Int)} {j : Nat}, (N.map Prod.fst).Nodup → N[j]? = some (c, w) → insN N c n = N.set j (c, w + n)
  | [], j, _, h => by simp at h
  | x :: xs, j, hd, h => by
    show (if x.1 = c then _ else x :: insN xs c n) = _
    cases j with
    | zero =>
      rw [List.getElem?_cons_zero] at h
      cases h
      rw [if_pos rfl]
      rfl
    | succ j =>
      rw [List.getElem?_cons_succ] at h
      rw [List.map_cons, List.nodup_cons] at hd
      have hx : x.1 ≠ c := fun q => hd.1 (by
        rw [q]
        exact List.mem_map.mpr ⟨(c, w), List.mem_of_getElem? h, rfl⟩)
      rw [if_neg hx, insN_old hd.2 h]
      rfl
theorem insN_nd {c n : Int} {N : List (Int × Int)} (h : (N.map Prod.fst).Nodup) : ((insN N c n).map Prod.fst).Nodup := by
  rcases Classical.em (∀ x ∈ N, x.1 ≠ c) with q | q
  · rw [insN_new q, List.map_append, List.nodup_append]
    refine ⟨h, by simp, fun a ha b hb => ?_⟩
    obtain ⟨x, hx, rfl⟩ := List.mem_map.mp ha
    simp at hb
    rw [hb]
    exact q x hx
  · have ⟨x, hx⟩ := Classical.not_forall.mp q
    obtain ⟨hx, hc⟩ := Classical.not_imp.mp hx
    have hc : x.1 = c := Classical.byContradiction hc
    obtain ⟨j, hj⟩ := List.getElem?_of_mem hx
    have hl := (List.getElem?_eq_some_iff.mp hj).1
    rw [insN_old (w := x.2) h (by rw [hj, ← hc])]
    rw [List.map_set]
    show ((N.map Prod.fst).set j c).Nodup
    have e : (N.map Prod.fst).set j c = N.map Prod.fst := by
      apply List.ext_getElem?
      intro i
      rw [List.getElem?_set]
      split
      · rename_i e
        subst e
        rw [List.getElem?_map, hj, List.length_map, if_pos hl]
        simp [hc]
      · rfl
    rw [e]
    exact h
theorem insN_mem {c n : Int} {N : List (Int × Int)} {y : Int × Int} (h : y ∈ insN N c n) : y.1 = c ∨ ∃ x ∈ N, x.1 = y.1 := by
  induction N with
  | nil => simp [insN] at h; exact Or.inl (by rw [h])
  | cons x xs ih =>
    unfold insN at h
    split at h
    · rcases List.mem_cons.mp h with e | e
      · exact Or.inr ⟨x, List.mem_cons_self, by rw [e]⟩
      · exact Or.inr ⟨y, List.mem_cons_of_mem _ e, rfl⟩
    · rcases List.mem_cons.mp h with e | e
      · exact Or.inr ⟨x, List.mem_cons_self, by rw [e]⟩
      · rcases ih e with z | ⟨z, h1, h2⟩
        · exact Or.inl z
        · exact Or.inr ⟨z, List.mem_cons_of_mem _ h1, h2⟩
/-- how many of the first n places aren't 0 -/
def cntZ (t : Int → Int) : Nat → Nat
  | 0 => 0
  | n + 1 => cntZ t n + (if t n = 0 then 0 else 1)
theorem cntZ_full {t : Int → Int} : ∀ n : Nat, (∀ k : Nat, k < n → t k ≠ 0) → cntZ t n = n
  | 0, _ => rfl
  | n + 1, h => by
    show cntZ t n + (if t n = 0 then 0 else 1) = n + 1
    rw [cntZ_full n (fun k hk => h k (by omega)), if_neg (h n (by omega))]
theorem cntZ_out {t : Int → Int} {s v : Int} : ∀ n : Nat, (n : Int) ≤ s → cntZ (uI t s v) n = cntZ t n
  | 0, _ => rfl
  | n + 1, h => by
    show cntZ (uI t s v) n + (if uI t s v n = 0 then 0 else 1) = cntZ t n + (if t n = 0 then 0 else 1)
    rw [cntZ_out n (by omega), uI_n t v (by omega)]
theorem cntZ_up {t : Int → Int} {s v : Int} (h0 : t s = 0) (hv : v ≠ 0) : ∀ n : Nat, 0 ≤ s → s < n → cntZ (uI t s v) n = cntZ t n + 1
  | 0, h1, h2 => by omega
  | n + 1, h1, h2 => by
    show cntZ (uI t s v) n + (if uI t s v n = 0 then 0 else 1) = cntZ t n + (if t n = 0 then 0 else 1) + 1
    rcases Decidable.em (s = n) with q | q
    · subst q
      rw [cntZ_out n (by omega), uI_s, if_neg hv, if_pos h0]
    · rw [cntZ_up h0 hv n h1 (by omega), uI_n t v (fun z => q z.symm)]
      omega
theorem cntZ_cg {t u : Int → Int} : ∀ n : Nat, (∀ k : Int, 0 ≤ k → k < n → (u k = 0 ↔ t k = 0)) → cntZ u n = cntZ t n
  | 0, _ => rfl
  | n + 1, h => by
    show cntZ u n + (if u n = 0 then 0 else 1) = cntZ t n + (if t n = 0 then 0 else 1)
    rw [cntZ_cg n (fun k h1 h2 => h k h1 (by omega))]
    have := h n (by omega) (by omega)
    rcases Decidable.em (t n = 0) with q | q
    · rw [if_pos q, if_pos (this.mpr q)]
    · rw [if_neg q, if_neg (fun z => q (this.mp z))]
/-- an open table of 2048 places is never full -/
theorem tab_free {t : Int → Int} {h : Int} (hc : cntZ t 2048 < 2048) : ∃ e : Nat, e < 2048 ∧ t ((h + e) % 2048) = 0 := by
  apply Classical.byContradiction
  intro hn
  have : cntZ t 2048 = 2048 := cntZ_full 2048 (fun k hk => by
    intro hz
    apply hn
    refine ⟨((k - h) % 2048).toNat, by omega, ?_⟩
    rw [Int.toNat_of_nonneg (by omega), show (h + (k - h) % 2048) % 2048 = k by omega]
    exact hz)
  omega
