/-! A FIGHT IN A ROW AND BY SLOTS: h heroes, m fighters; slF the slot of a fighter -/
def slF (h k : Int) : Int := if k < h then k else 3 + (k - h)
def hmOk (h m : Int) : Prop := 0 ≤ h ∧ h ≤ 3 ∧ h ≤ m ∧ m - h ≤ 3
def noS (h m j : Int) : Prop := (j < 3 ∧ h ≤ j) ∨ (3 ≤ j ∧ m - h ≤ j - 3)
theorem slF_rg {h m k : Int} (hm : hmOk h m) (hk : 0 ≤ k ∧ k < m) : 0 ≤ slF h k ∧ slF h k < 6 ∧ ¬ noS h m (slF h k) := by
  unfold slF noS
  unfold hmOk at hm
  split <;> omega
theorem slF_inj {h m j k : Int} (hm : hmOk h m) (hj : 0 ≤ j ∧ j < m) (hk : 0 ≤ k ∧ k < m) (e : slF h j = slF h k) : j = k := by
  unfold slF at e
  unfold hmOk at hm
  (repeat' split at e) <;> omega
/-- each slot is some fighter's, or nobody's -/
theorem slF_sur {h m j : Int} (hm : hmOk h m) (hj : 0 ≤ j ∧ j < 6) : noS h m j ∨ ∃ k : Int, (0 ≤ k ∧ k < m) ∧ slF h k = j := by
  unfold hmOk at hm
  rcases Classical.em (noS h m j) with q | q
  · exact Or.inl q
  · right
    unfold noS at q
    rcases Int.lt_or_le j 3 with z | z
    · exact ⟨j, by omega, by unfold slF; rw [if_pos (by omega)]⟩
    · exact ⟨j - 3 + h, by omega, by unfold slF; rw [if_neg (by omega)]; omega⟩
def sdF (h k : Int) : Int := if k < h then 0 else 1
/-- lives and who is up: l u in a row, L U by slots -/
def csR (h m : Int) (L U l u : Int → Int) : Prop := (∀ k : Int, 0 ≤ k → k < m → l k = L (slF h k) ∧ u k = U (slF h k)) ∧ ∀ j : Int, 0 ≤ j → j < 6 → noS h m j → L j = 0 ∧ U j = 0
theorem csR.cg {h m : Int} {L U l u L' U' l' u' : Int → Int} (hm : hmOk h m) (hr : csR h m L U l u) (hL : ag L' L) (hU : ag U' U) (hl : ∀ k : Int, 0 ≤ k → k < m → l' k = l k ∧ u' k = u k) : csR h m L' U' l' u' :=
  ⟨fun k a b => by
    have rg := slF_rg hm ⟨a, b⟩
    rw [(hl k a b).1, (hl k a b).2, hL _ rg.1 rg.2.1, hU _ rg.1 rg.2.1]
    exact hr.1 k a b, fun j a b c => by rw [hL j a b, hU j a b]; exact hr.2 j a b c⟩
theorem csR.up {h m : Int} {L U l u : Int → Int} (hm : hmOk h m) (hr : csR h m L U l u) {b : Int} (hb : 0 ≤ b ∧ b < m) (x y : Int) : csR h m (uI L (slF h b) x) (uI U (slF h b) y) (uI l b x) (uI u b y) := by
  have rb := slF_rg hm hb
  refine ⟨fun k h1 h2 => ?_, fun j h1 h2 h3 => ?_⟩
  · rcases Decidable.em (k = b) with q | q
    · subst q
      rw [uI_s, uI_s, uI_s, uI_s]
      exact ⟨rfl, rfl⟩
    · have : slF h k ≠ slF h b := fun z => q (slF_inj hm ⟨h1, h2⟩ hb z)
      rw [uI_n _ _ q, uI_n _ _ q, uI_n _ _ this, uI_n _ _ this]
      exact hr.1 k h1 h2
  · have : j ≠ slF h b := fun z => rb.2.2 (z ▸ h3)
    rw [uI_n _ _ this, uI_n _ _ this]
    exact hr.2 j h1 h2 h3
theorem csR.upL {h m : Int} {L U l u : Int → Int} (hm : hmOk h m) (hr : csR h m L U l u) {b : Int} (hb : 0 ≤ b ∧ b < m) (x : Int) : csR h m (uI L (slF h b) x) U (uI l b x) u := by
  have := hr.up hm hb x (u b)
  refine ⟨fun k h1 h2 => ⟨(this.1 k h1 h2).1, (hr.1 k h1 h2).2⟩, fun j h1 h2 h3 => ⟨(this.2 j h1 h2 h3).1, (hr.2 j h1 h2 h3).2⟩⟩
theorem csR.upU {h m : Int} {L U l u : Int → Int} (hm : hmOk h m) (hr : csR h m L U l u) {b : Int} (hb : 0 ≤ b ∧ b < m) (x : Int) : csR h m L (uI U (slF h b) x) l (uI u b x) := by
  have := hr.up hm hb (l b) x
  refine ⟨fun k h1 h2 => ⟨(hr.1 k h1 h2).1, (this.1 k h1 h2).2⟩, fun j h1 h2 h3 => ⟨(hr.2 j h1 h2 h3).1, (this.2 j h1 h2 h3).2⟩⟩
/-! who has won -/
def sdOk (h m : Int) (sd : Int → Int) : Prop := ∀ k : Int, 0 ≤ k → k < m → sd k = sdF h k
theorem thF_win {h m : Int} {L U l u sd : Int → Int} (hm : hmOk h m) (hr : csR h m L U l u) (hs : sdOk h m sd) : (thF u sd 0 m.toNat = 0 ↔ U 0 = 0 ∧ U 1 = 0 ∧ U 2 = 0) ∧ (thF u sd 1 m.toNat = 0 ↔ U 3 = 0 ∧ U 4 = 0 ∧ U 5 = 0) ∧ (thF u sd 0 m.toNat = 0 ∨ thF u sd 0 m.toNat = 1) ∧ (thF u sd 1 m.toNat = 0 ∨ thF u sd 1 m.toNat = 1) := by
  have key : ∀ t : Int, (t = 0 ∨ t = 1) → (thF u sd t m.toNat = 0 ↔ ∀ j : Int, 3 * t ≤ j → j < 3 * t + 3 → U j = 0) ∧ (thF u sd t m.toNat = 0 ∨ thF u sd t m.toNat = 1) := fun t ht => by
    rcases thF_01 (U := u) (sd := sd) (s := t) m.toNat with ⟨q, k, a, b, c, d⟩ | ⟨q, hq⟩
    · refine ⟨⟨fun z => by omega, fun z => ?_⟩, Or.inr q⟩
      exfalso
      have h1 := hr.1 k a (by omega)
      have h2 := hs k a (by omega)
      rw [h1.2] at c
      have h3 := slF_rg hm (k := k) (by omega)
      refine c (z _ ?_ ?_) <;> unfold sdF at h2 <;> unfold slF at h3 ⊢ <;> unfold hmOk at hm <;> (repeat' split at h2) <;> (repeat' split at h3) <;> (repeat' split) <;> omega
    · refine ⟨⟨fun _ j a b => ?_, fun _ => q⟩, Or.inl q⟩
      rcases slF_sur hm (j := j) (by omega) with z | ⟨k, hk, hkj⟩
      · exact (hr.2 j (by omega) (by omega) z).2
      · have h1 := hr.1 k hk.1 hk.2
        have h2 := hs k hk.1 hk.2
        have h3 := hq k hk.1 (by omega)
        rw [h1.2, hkj, h2] at h3
        rcases Decidable.em (U j = 0) with y | y
        · exact y
        · refine absurd ⟨y, ?_⟩ h3
          unfold sdF
          unfold slF at hkj
          unfold hmOk at hm
          (repeat' split at hkj) <;> (repeat' split) <;> omega
  have k0 := key 0 (Or.inl rfl)
  have k1 := key 1 (Or.inr rfl)
  refine ⟨k0.1.trans ⟨fun z => ⟨z 0 (by omega) (by omega), z 1 (by omega) (by omega), z 2 (by omega) (by omega)⟩, fun z j a b => ?_⟩, k1.1.trans ⟨fun z => ⟨z 3 (by omega) (by omega), z 4 (by omega) (by omega), z 5 (by omega) (by omega)⟩, fun z j a b => ?_⟩, k0.2, k1.2⟩
  · have : j = 0 ∨ j = 1 ∨ j = 2 := by omega
    rcases this with rfl | rfl | rfl
    · exact z.1
    · exact z.2.1
    · exact z.2.2
  · have : j = 3 ∨ j = 4 ∨ j = 5 := by omega
    rcases this with rfl | rfl | rfl
    · exact z.1
    · exact z.2.1
    · exact z.2.2
theorem enF_win {h m : Int} {L U l u sd : Int → Int} (hm : hmOk h m) (hr : csR h m L U l u) (hs : sdOk h m sd) : enF u sd m.toNat = if winF U = 2 then -1 else winF U := by
  obtain ⟨a, b, c, d⟩ := thF_win hm hr hs
  unfold enF winF
  by_cases q : thF u sd 0 m.toNat = 0
  · rw [if_pos q, if_pos (a.mp q)]
    rfl
  · rw [if_neg q, if_neg (fun z => q (a.mpr z))]
    by_cases q1 : thF u sd 1 m.toNat = 0
    · rw [if_pos q1, if_pos (b.mp q1)]
      rfl
    · rw [if_neg q1, if_neg (fun z => q1 (b.mpr z))]
      rfl
/-! the best of a side -/
theorem tst_abs {L U : Int → Int} {ls o : Int} {i : Nat} : ∀ n : Nat, (∀ j : Nat, i ≤ j → j < i + n → U (o + j) = 0) → tst L U ls o (i + n) = tst L U ls o i
  | 0, _ => rfl
  | n + 1, hz => by
    show tstep L U ls (tst L U ls o (i + n)) (o + (i + n : Nat)) = _
    unfold tstep
    rw [if_neg (fun q => q.1 (hz (i + n) (by omega) (by omega))), tst_abs n (fun j a b => hz j a (by omega))]
theorem cbF_stop {L U sd : Int → Int} {t ls : Int} {i : Nat} : ∀ n : Nat, (∀ j : Nat, i ≤ j → j < i + n → sd j ≠ t) → cbF L U sd t ls (i + n) = cbF L U sd t ls i
  | 0, _ => rfl
  | n + 1, hz => by
    show (if sd ((i + n : Nat) : Int) = t then _ else _) = _
    rw [if_neg (hz (i + n) (by omega) (by omega))]
    exact cbF_stop n (fun j a b => hz j a (by omega))
/-- a best one in a row, as a slot -/
def slB (h b : Int) : Int := if b = -1 then -1 else slF h b
theorem cbF_h {h m : Int} {L U l u sd : Int → Int} (hm : hmOk h m) (hr : csR h m L U l u) (hs : sdOk h m sd) {ls : Int} : ∀ n : Nat, (n : Int) ≤ h → cbF l u sd 0 ls n = tst L U ls 0 n
  | 0, _ => rfl
  | n + 1, hn => by
    have ih := cbF_h hm hr hs (ls := ls) n (by omega)
    have rg := cbF_rg (L := l) (U := u) (sd := sd) (t := 0) (ls := ls) n
    unfold hmOk at hm
    have e1 := hr.1 n (by omega) (by omega)
    have e2 := hs n (by omega) (by omega)
    unfold sdF at e2
    rw [if_pos (by omega)] at e2
    have e3 : slF h n = n := by unfold slF; rw [if_pos (by omega)]
    rw [e3] at e1
    show (if sd (n : Int) = 0 then tstep l u ls (cbF l u sd 0 ls n) n else _) = tstep L U ls (tst L U ls 0 n) (0 + (n : Int))
    rw [if_pos e2, Int.zero_add, ← ih]
    generalize cbF l u sd 0 ls n = b at rg
    unfold tstep
    rw [e1.1, e1.2]
    rcases Decidable.em (b = -1) with q | q
    · simp only [q, true_or, and_true]
    · have e4 := hr.1 b (by omega) (by omega)
      have e5 : slF h b = b := by unfold slF; rw [if_pos (by omega)]
      rw [e5] at e4
      rw [e4.1]
theorem cbF_f {h m : Int} {L U l u sd : Int → Int} (hm : hmOk h m) (hr : csR h m L U l u) (hs : sdOk h m sd) {ls : Int} : ∀ n : Nat, h + n ≤ m → slB h (cbF l u sd 1 ls (h.toNat + n)) = tst L U ls 3 n ∧ (cbF l u sd 1 ls (h.toNat + n) = -1 ∨ h ≤ cbF l u sd 1 ls (h.toNat + n))
  | 0, _ => by
    unfold hmOk at hm
    have : cbF l u sd 1 ls (0 + h.toNat) = cbF l u sd 1 ls 0 := cbF_stop _ (fun j _ b => by
      have e2 := hs j (by omega) (by omega)
      unfold sdF at e2
      rw [if_pos (by omega)] at e2
      omega)
    rw [Nat.zero_add] at this
    rw [Nat.add_zero, this]
    exact ⟨rfl, Or.inl rfl⟩
  | n + 1, hn => by
    have ih := cbF_f hm hr hs (ls := ls) n (by omega)
    have rg := cbF_rg (L := l) (U := u) (sd := sd) (t := 1) (ls := ls) (h.toNat + n)
    unfold hmOk at hm
    have ei : ((h.toNat + n : Nat) : Int) = h + n := by omega
    have e1 := hr.1 (h + n) (by omega) (by omega)
    have e2 := hs (h + n) (by omega) (by omega)
    unfold sdF at e2
    rw [if_neg (by omega)] at e2
    have e3 : slF h (h + n) = 3 + n := by unfold slF; rw [if_neg (by omega)]; omega
    rw [e3] at e1
    have eq1 : cbF l u sd 1 ls (h.toNat + (n + 1)) = tstep l u ls (cbF l u sd 1 ls (h.toNat + n)) (h + n) := by
      show (if sd ((h.toNat + n : Nat) : Int) = 1 then tstep l u ls (cbF l u sd 1 ls (h.toNat + n)) ((h.toNat + n : Nat) : Int) else _) = _
      rw [ei, if_pos e2]
    rw [eq1]
    show _ = tstep L U ls (tst L U ls 3 n) (3 + (n : Int)) ∧ _
    rw [← ih.1]
    generalize cbF l u sd 1 ls (h.toNat + n) = b at rg ih
    have hb : slB h b = -1 ↔ b = -1 := by
      unfold slB slF
      split
      · omega
      · split <;> omega
    have hL : b ≠ -1 → l b = L (slB h b) := fun q => by
      unfold slB
      rw [if_neg q]
      exact (hr.1 b (by omega) (by omega)).1
    unfold tstep
    rw [e1.1, e1.2]
    rcases Decidable.em (U (3 + n) ≠ 0 ∧ (b = -1 ∨ (ls ≠ 0 ∧ L (3 + n) < l b))) with q | q
    · rw [if_pos q, if_pos ⟨q.1, by
        rcases q.2 with z | z
        · exact Or.inl (hb.mpr z)
        · rcases Decidable.em (b = -1) with y | y
          · exact Or.inl (hb.mpr y)
          · rw [← hL y]
            exact Or.inr z⟩]
      refine ⟨?_, Or.inr (by omega)⟩
      unfold slB
      rw [if_neg (by omega), e3]
    · rw [if_neg q, if_neg (fun z => q ⟨z.1, by
        rcases z.2 with w | w
        · exact Or.inl (hb.mp w)
        · rcases Decidable.em (b = -1) with y | y
          · exact Or.inl y
          · rw [hL y]
            exact Or.inr w⟩)]
      exact ⟨rfl, ih.2⟩
/-- the best of side t, in a row and by slots -/
theorem cbF_tgt {h m : Int} {L U l u sd : Int → Int} (hm : hmOk h m) (hr : csR h m L U l u) (hs : sdOk h m sd) {ls t : Int} (ht : t = 0 ∨ t = 1) : slB h (cbF l u sd t ls m.toNat) = tgt L U ls (3 * t) := by
  have hm' := hm
  unfold hmOk at hm
  rcases ht with rfl | rfl
  · have e1 : cbF l u sd 0 ls (h.toNat + (m - h).toNat) = cbF l u sd 0 ls h.toNat := cbF_stop _ (fun j a b => by
      have e2 := hs j (by omega) (by omega)
      unfold sdF at e2
      rw [if_neg (by omega)] at e2
      omega)
    rw [show h.toNat + (m - h).toNat = m.toNat by omega] at e1
    have e2 : tst L U ls 0 (h.toNat + (3 - h).toNat) = tst L U ls 0 h.toNat := tst_abs _ (fun j a b => (hr.2 (0 + (j : Int)) (by omega) (by omega) (Or.inl (by omega))).2)
    rw [show h.toNat + (3 - h).toNat = 3 by omega] at e2
    have e3 := cbF_h hm' hr hs (ls := ls) h.toNat (by omega)
    have rg := cbF_rg (L := l) (U := u) (sd := sd) (t := 0) (ls := ls) h.toNat
    show slB h _ = tst L U ls 0 3
    rw [e1, e2, ← e3]
    generalize cbF l u sd 0 ls h.toNat = b at rg
    unfold slB slF
    (repeat' split) <;> omega
  · have e3 := (cbF_f hm' hr hs (ls := ls) (m - h).toNat (by omega)).1
    rw [show h.toNat + (m - h).toNat = m.toNat by omega] at e3
    have e2 : tst L U ls 3 ((m - h).toNat + (3 - (m - h)).toNat) = tst L U ls 3 (m - h).toNat := tst_abs _ (fun j a b => (hr.2 (3 + (j : Int)) (by omega) (by omega) (Or.inr (by omega))).2)
    rw [show (m - h).toNat + (3 - (m - h)).toNat = 3 by omega] at e2
    show slB h _ = tst L U ls 3 3
    rw [e2, e3]
/-! hits at a whole side -/
theorem aStep_cs {h m b k : Int} {P p : (Int → Int) × (Int → Int)} (hm : hmOk h m) (hr : csR h m P.1 P.2 p.1 p.2) (hk : 0 ≤ k ∧ k < m) : csR h m (aStep b (slF h k) P).1 (aStep b (slF h k) P).2 (aStep b k p).1 (aStep b k p).2 := by
  have e := hr.1 k hk.1 hk.2
  unfold aStep
  rw [e.2]
  split
  · show csR h m (huL P.1 (slF h k) b) (huU P.1 P.2 (slF h k) b) (huL p.1 k b) (huU p.1 p.2 k b)
    unfold huL huU
    rw [e.1]
    exact hr.up hm hk _ _
  · exact hr
theorem aSt_abs {b o : Int} {P : (Int → Int) × (Int → Int)} {i : Nat} : ∀ n : Nat, (∀ j : Nat, i ≤ j → j < i + n → (aSt b o P i).2 (o + j) = 0) → aSt b o P (i + n) = aSt b o P i
  | 0, _ => rfl
  | n + 1, hz => by
    have ih := aSt_abs n (fun j a c => hz j a (by omega))
    show aStep b (o + ((i + n : Nat) : Int)) (aSt b o P (i + n)) = _
    rw [ih]
    unfold aStep
    rw [if_neg (fun q => q (hz (i + n) (by omega) (by omega)))]
theorem caF_stop {sd : Int → Int} {t b : Int} {P : (Int → Int) × (Int → Int)} {i : Nat} : ∀ n : Nat, (∀ j : Nat, i ≤ j → j < i + n → sd j ≠ t) → caF sd t b P (i + n) = caF sd t b P i
  | 0, _ => rfl
  | n + 1, hz => by
    show (if sd ((i + n : Nat) : Int) = t then _ else _) = _
    rw [if_neg (hz (i + n) (by omega) (by omega))]
    exact caF_stop n (fun j a c => hz j a (by omega))
theorem caF_h {h m b : Int} {sd : Int → Int} {P p : (Int → Int) × (Int → Int)} (hm : hmOk h m) (hr : csR h m P.1 P.2 p.1 p.2) (hs : sdOk h m sd) : ∀ n : Nat, (n : Int) ≤ h → csR h m (aSt b 0 P n).1 (aSt b 0 P n).2 (caF sd 0 b p n).1 (caF sd 0 b p n).2
  | 0, _ => hr
  | n + 1, hn => by
    have ih := caF_h hm hr hs (b := b) n (by omega)
    have hm' := hm
    unfold hmOk at hm
    have e2 := hs n (by omega) (by omega)
    unfold sdF at e2
    rw [if_pos (by omega)] at e2
    have e3 : slF h n = n := by unfold slF; rw [if_pos (by omega)]
    have := aStep_cs (b := b) hm' ih (k := n) (by omega)
    rw [e3] at this
    show csR h m (aStep b (0 + (n : Int)) (aSt b 0 P n)).1 (aStep b (0 + (n : Int)) (aSt b 0 P n)).2 (if sd (n : Int) = 0 then aStep b n (caF sd 0 b p n) else caF sd 0 b p n).1 (if sd (n : Int) = 0 then aStep b n (caF sd 0 b p n) else caF sd 0 b p n).2
    rw [if_pos e2, Int.zero_add]
    exact this
theorem caF_f {h m b : Int} {sd : Int → Int} {P p : (Int → Int) × (Int → Int)} (hm : hmOk h m) (hr : csR h m P.1 P.2 p.1 p.2) (hs : sdOk h m sd) : ∀ n : Nat, h + n ≤ m → csR h m (aSt b 3 P n).1 (aSt b 3 P n).2 (caF sd 1 b p (h.toNat + n)).1 (caF sd 1 b p (h.toNat + n)).2
  | 0, _ => by
    unfold hmOk at hm
    have : caF sd 1 b p (0 + h.toNat) = caF sd 1 b p 0 := caF_stop _ (fun j _ c => by
      have e2 := hs j (by omega) (by omega)
      unfold sdF at e2
      rw [if_pos (by omega)] at e2
      omega)
    rw [Nat.zero_add] at this
    rw [Nat.add_zero, this]
    exact hr
  | n + 1, hn => by
    have ih := caF_f hm hr hs (b := b) n (by omega)
    have hm' := hm
    unfold hmOk at hm
    have ei : ((h.toNat + n : Nat) : Int) = h + n := by omega
    have e2 := hs (h + n) (by omega) (by omega)
    unfold sdF at e2
    rw [if_neg (by omega)] at e2
    have e3 : slF h (h + n) = 3 + n := by unfold slF; rw [if_neg (by omega)]; omega
    have := aStep_cs (b := b) hm' ih (k := h + n) (by omega)
    rw [e3] at this
    have eq1 : caF sd 1 b p (h.toNat + (n + 1)) = aStep b (h + n) (caF sd 1 b p (h.toNat + n)) := by
      show (if sd ((h.toNat + n : Nat) : Int) = 1 then aStep b ((h.toNat + n : Nat) : Int) (caF sd 1 b p (h.toNat + n)) else _) = _
      rw [ei, if_pos e2]
    rw [eq1]
    exact this
theorem caF_aSt {h m b t : Int} {sd : Int → Int} {P p : (Int → Int) × (Int → Int)} (hm : hmOk h m) (hr : csR h m P.1 P.2 p.1 p.2) (hs : sdOk h m sd) (ht : t = 0 ∨ t = 1) : csR h m (aSt b (3 * t) P 3).1 (aSt b (3 * t) P 3).2 (caF sd t b p m.toNat).1 (caF sd t b p m.toNat).2 := by
  have hm' := hm
  unfold hmOk at hm
  rcases ht with rfl | rfl
  · have e1 : caF sd 0 b p (h.toNat + (m - h).toNat) = caF sd 0 b p h.toNat := caF_stop _ (fun j a c => by
      have e2 := hs j (by omega) (by omega)
      unfold sdF at e2
      rw [if_neg (by omega)] at e2
      omega)
    rw [show h.toNat + (m - h).toNat = m.toNat by omega] at e1
    have e3 := caF_h hm' hr hs (b := b) h.toNat (by omega)
    have e2 : aSt b 0 P (h.toNat + (3 - h).toNat) = aSt b 0 P h.toNat := aSt_abs _ (fun j a c => (e3.2 (0 + (j : Int)) (by omega) (by omega) (Or.inl (by omega))).2)
    rw [show h.toNat + (3 - h).toNat = 3 by omega] at e2
    show csR h m (aSt b 0 P 3).1 (aSt b 0 P 3).2 _ _
    rw [e1, e2]
    exact e3
  · have e3 := caF_f hm' hr hs (b := b) (m - h).toNat (by omega)
    rw [show h.toNat + (m - h).toNat = m.toNat by omega] at e3
    have e2 : aSt b 3 P ((m - h).toNat + (3 - (m - h)).toNat) = aSt b 3 P (m - h).toNat := aSt_abs _ (fun j a c => (e3.2 (3 + (j : Int)) (by omega) (by omega) (Or.inr (by omega))).2)
    rw [show (m - h).toNat + (3 - (m - h)).toNat = 3 by omega] at e2
    show csR h m (aSt b 3 P 3).1 (aSt b 3 P 3).2 _ _
    rw [e2]
    exact e3
/-- a hit, in a row and by slots -/
theorem chF_hit {h m : Int} {L U l u sd Full full : Int → Int} (hm : hmOk h m) (hr : csR h m L U l u) (hs : sdOk h m sd) (hf : ∀ k : Int, 0 ≤ k → k < m → full k = Full (slF h k)) {kd fo aim w : Int} (hw : 0 ≤ w ∧ w < m) (hu : u w ≠ 0) (hT : thF u sd (1 - sd w) m.toNat = 1) :
    csR h m (hitP kd fo aim Full L U (slF h w)).1 (hitP kd fo aim Full L U (slF h w)).2 (chF kd fo aim full sd l u w m.toNat).1 (chF kd fo aim full sd l u w m.toNat).2 := by
  have hm' := hm
  have e0 := hs w hw.1 hw.2
  have hsd : sd w = 0 ∨ sd w = 1 := by rw [e0]; unfold sdF; split <;> omega
  have ho : otherF (slF h w) = 3 * (1 - sd w) ∧ 3 - otherF (slF h w) = 3 * sd w := by
    rw [e0]
    unfold otherF slF sdF
    unfold hmOk at hm
    (repeat' split) <;> omega
  unfold hitP chF
  split
  · have e1 := cbF_tgt hm' hr hs (ls := if aim = 1 then 1 else 0) (t := 1 - sd w) (by omega)
    have b0 := cbF_some (L := l) (ls := if aim = 1 then 1 else 0) m.toNat hT
    have rg := cbF_rg (L := l) (U := u) (sd := sd) (t := 1 - sd w) (ls := if aim = 1 then 1 else 0) m.toNat
    rw [ho.1, ← e1]
    generalize cbF l u sd (1 - sd w) (if aim = 1 then 1 else 0) m.toNat = b at b0 rg
    have eb : slB h b = slF h b := by unfold slB; rw [if_neg (by omega)]
    rw [eb]
    have e := hr.1 b b0 (by omega)
    show csR h m (huL L (slF h b) fo) (huU L U (slF h b) fo) (huL l b fo) (huU l u b fo)
    unfold huL huU
    rw [e.1]
    exact hr.up hm' (by omega) _ _
  · split
    · rw [ho.1]
      exact caF_aSt (P := (L, U)) (p := (l, u)) hm' hr hs (by omega)
    · have hT2 : thF u sd (sd w) m.toNat = 1 := thF_at (k := w) (by omega) ⟨hu, rfl⟩
      have e1 := cbF_tgt hm' hr hs (ls := 1) (t := sd w) hsd
      have b0 := cbF_some (L := l) (ls := 1) m.toNat hT2
      have rg := cbF_rg (L := l) (U := u) (sd := sd) (t := sd w) (ls := 1) m.toNat
      rw [ho.2, ← e1]
      generalize cbF l u sd (sd w) 1 m.toNat = b at b0 rg
      have eb : slB h b = slF h b := by unfold slB; rw [if_neg (by omega)]
      rw [eb]
      have e := hr.1 b b0 (by omega)
      have e2 := hf b b0 (by omega)
      show csR h m (uI L (slF h b) _) U (uI l b (minF (full b) (l b + fo))) u
      have e3 : minF (full b) (l b + fo) = if Full (slF h b) < L (slF h b) + fo then Full (slF h b) else L (slF h b) + fo := by
        rw [e2, e.1]
        unfold minF
        (repeat' split) <;> omega
      rw [e3]
      exact hr.upL hm' (by omega) _
/-! a state as a number -/
def ckF (h m : Int) (L U : Int → Int) : Int := pkF (fun k => L (slF h k)) (fun k => U (slF h k)) m.toNat
def ckC (h m c : Int) : Int := ckF h m (lfD c) (ufD c)
theorem ckF_cg {h m : Int} {L U L' U' : Int → Int} (hm : hmOk h m) (hL : ag L' L) (hU : ag U' U) : ckF h m L' U' = ckF h m L U := pkF_cg m.toNat fun k a b => by
  have rg := slF_rg hm (k := k) ⟨a, by unfold hmOk at hm; omega⟩
  exact ⟨hL _ rg.1 rg.2.1, hU _ rg.1 rg.2.1⟩
theorem csR.key {h m : Int} {L U l u : Int → Int} (hm : hmOk h m) (hr : csR h m L U l u) : pkF l u m.toNat = ckF h m L U := pkF_cg m.toNat fun k a b => hr.1 k a (by unfold hmOk at hm; omega)
theorem ck_dg {h m : Int} {L U : Int → Int} (hm : hmOk h m) (hO : okS L U) {k : Int} (hk : 0 ≤ k ∧ k < m) : dgt (ckF h m L U) (m - 1 - k).toNat / 2 % 32 = L (slF h k) ∧ dgt (ckF h m L U) (m - 1 - k).toNat % 2 = U (slF h k) := by
  have hm' := hm
  unfold hmOk at hm
  have := pkF_dgt (L := fun k => L (slF h k)) (U := fun k => U (slF h k)) m.toNat (fun j a b => by
    have rg := slF_rg hm' (k := j) ⟨a, by omega⟩
    have := hO _ rg.1 rg.2.1
    omega) k.toNat (by omega)
  rw [Int.toNat_of_nonneg hk.1] at this
  have rg := slF_rg hm' hk
  have ho := hO _ rg.1 rg.2.1
  show dgt (pkF _ _ m.toNat) _ / 2 % 32 = _ ∧ dgt (pkF _ _ m.toNat) _ % 2 = _
  rw [show (m - 1 - k).toNat = m.toNat - 1 - k.toNat by omega]
  generalize dgt (pkF (fun k => L (slF h k)) (fun k => U (slF h k)) m.toNat) (m.toNat - 1 - k.toNat) = x at this
  omega
theorem ckF_rg {h m : Int} {L U : Int → Int} (hm : hmOk h m) (hO : okS L U) : 0 ≤ ckF h m L U ∧ ckF h m L U < 68719476736 := by
  have hm' := hm
  unfold hmOk at hm
  have := pkc_rg (L := fun k => L (slF h k)) (U := fun k => U (slF h k)) (n := m) (fun j a b => by
    have rg := slF_rg hm' (k := j) ⟨a, by omega⟩
    have := hO _ rg.1 rg.2.1
    omega) (i := m) (by omega)
  exact ⟨this.1, this.2.1⟩
/-- numbers of states in order differ as the states do -/
theorem ckC_inj {Su : Int → Int → Int} {h m c c' : Int} (hm : hmOk h m) (ha : ∀ j : Int, 0 ≤ j → j < 6 → noS h m j → Su 1 j = 0) (hc : vC Su c) (hc' : vC Su c') (e : ckC h m c = ckC h m c') : c = c' := by
  rw [← hc.2.2.1, ← hc'.2.2.1]
  refine pkF_cg 6 fun j a b => ?_
  rcases slF_sur hm (j := j) ⟨a, b⟩ with q | ⟨k, hk, hkj⟩
  · have e1 := hc.2.2.2 j a b (ha j a b q)
    have e2 := hc'.2.2.2 j a b (ha j a b q)
    exact ⟨e1.1.trans e2.1.symm, e1.2.trans e2.2.symm⟩
  · have e1 := ck_dg hm hc.2.1 hk
    have e2 := ck_dg hm hc'.2.1 hk
    rw [← hkj, ← e1.1, ← e1.2, ← e2.1, ← e2.2]
    unfold ckC at e
    rw [e]
    exact ⟨rfl, rfl⟩
/-! rows of states, their numbers changed -/
def mpC (h m : Int) (N : List (Int × Int)) : List (Int × Int) := N.map fun x => (ckC h m x.1, x.2)
theorem mpC_ins {Su : Int → Int → Int} {h m c n : Int} (hm : hmOk h m) (ha : ∀ j : Int, 0 ≤ j → j < 6 → noS h m j → Su 1 j = 0) (hc : vC Su c) : ∀ N : List (Int × Int), (∀ x ∈ N, vC Su x.1) → mpC h m (insN N c n) = insN (mpC h m N) (ckC h m c) n
  | [], _ => rfl
  | x :: xs, hN => by
    have ih := mpC_ins hm ha hc (n := n) xs (fun y hy => hN y (List.mem_cons_of_mem _ hy))
    show mpC h m (if x.1 = c then (x.1, x.2 + n) :: xs else x :: insN xs c n) = if ckC h m x.1 = ckC h m c then (ckC h m x.1, x.2 + n) :: mpC h m xs else (ckC h m x.1, x.2) :: insN (mpC h m xs) (ckC h m c) n
    rcases Decidable.em (x.1 = c) with q | q
    · rw [if_pos q, if_pos (by rw [q])]
      rfl
    · rw [if_neg q, if_neg (fun z => q (ckC_inj hm ha (hN x List.mem_cons_self) hc z)), ← ih]
      rfl
theorem mpC_len {h m : Int} {N : List (Int × Int)} : (mpC h m N).length = N.length := List.length_map ..
theorem mpC_bd {h m B : Int} {N : List (Int × Int)} (hN : ∀ x ∈ N, x.2 ≤ B) : ∀ x ∈ mpC h m N, x.2 ≤ B := fun x hx => by
  obtain ⟨y, hy, e⟩ := List.mem_map.mp hx
  rw [← e]
  exact hN y hy
