/-! A TURN of FairFight's odds, pure: what the table and the sums hold stands for the rows of states of part evo -/
/-- the fight's cells were set up by Su; h heroes -/
def stR (h : Int) (Su : Int → Int → Int) (Z : Nat → Int → Int) : Prop :=
  hmOk h (Z 201 0) ∧ (Z 201 0 = Su 6 2 ∧ Z 201 1 = Su 6 0 ∧ Z 0 5 = Su 6 1 ∧ Z 0 3 = Su 6 3) ∧ sdOk h (Z 201 0) (Z 202) ∧
  (∀ k : Int, 0 ≤ k → k < Z 201 0 → Z 204 k = Su 0 (slF h k) ∧ Z 205 k = Su 1 (slF h k) ∧ Z 206 k = Su 2 (slF h k) ∧ Z 207 k = Su 3 (slF h k) ∧ Z 208 k = Su 4 (slF h k) ∧ slF h (Z 209 k) = Su 5 k) ∧
  (∀ j : Int, 0 ≤ j → j < 6 → noS h (Z 201 0) j → Su 1 j = 0)
theorem stR.m {h : Int} {Su : Int → Int → Int} {Z : Nat → Int → Int} (hs : stR h Su Z) : hmOk h (Z 201 0) := hs.1
theorem stR.n {h : Int} {Su : Int → Int → Int} {Z : Nat → Int → Int} (hs : stR h Su Z) : Z 201 0 = Su 6 2 ∧ Z 201 1 = Su 6 0 ∧ Z 0 5 = Su 6 1 ∧ Z 0 3 = Su 6 3 := hs.2.1
theorem stR.sd {h : Int} {Su : Int → Int → Int} {Z : Nat → Int → Int} (hs : stR h Su Z) : sdOk h (Z 201 0) (Z 202) := hs.2.2.1
theorem stR.at {h : Int} {Su : Int → Int → Int} {Z : Nat → Int → Int} (hs : stR h Su Z) {k : Int} (hk : 0 ≤ k ∧ k < Z 201 0) : Z 204 k = Su 0 (slF h k) ∧ Z 205 k = Su 1 (slF h k) ∧ Z 206 k = Su 2 (slF h k) ∧ Z 207 k = Su 3 (slF h k) ∧ Z 208 k = Su 4 (slF h k) ∧ slF h (Z 209 k) = Su 5 k := hs.2.2.2.1 k hk.1 hk.2
theorem stR.no {h : Int} {Su : Int → Int → Int} {Z : Nat → Int → Int} (hs : stR h Su Z) : ∀ j : Int, 0 ≤ j → j < 6 → noS h (Z 201 0) j → Su 1 j = 0 := hs.2.2.2.2
theorem stR.ch {h : Int} {Su : Int → Int → Int} {Z Z' : Nat → Int → Int} (hs : stR h Su Z) {ks : List Nat} (hc : ch Z Z' ks) (hk : (!ks.contains 0 && !ks.contains 201 && !ks.contains 202 && !ks.contains 204 && !ks.contains 205 && !ks.contains 206 && !ks.contains 207 && !ks.contains 208 && !ks.contains 209) = true) : stR h Su Z' := by
  simp at hk
  unfold stR at hs ⊢
  rw [hc 0 (by simp [hk]), hc 201 (by simp [hk]), hc 202 (by simp [hk]), hc 204 (by simp [hk]), hc 205 (by simp [hk]), hc 206 (by simp [hk]), hc 207 (by simp [hk]), hc 208 (by simp [hk]), hc 209 (by simp [hk])]
  exact hs
theorem bec_cs {Su : Int → Int → Int} {h m c : Int} {l u : Int → Int} (hm : hmOk h m) (ha : ∀ j : Int, 0 ≤ j → j < 6 → noS h m j → Su 1 j = 0) (hc : vC Su c) (hp : ∀ k : Int, 0 ≤ k → k < m → l k = dgt (ckC h m c) (m - 1 - k).toNat / 2 % 32 ∧ u k = dgt (ckC h m c) (m - 1 - k).toNat % 2) : csR h m (lfD c) (ufD c) l u :=
  ⟨fun k a b => by
    have := ck_dg hm hc.2.1 (k := k) ⟨a, b⟩
    have h2 := hp k a b
    unfold ckC at h2
    rw [this.1, this.2] at h2
    exact h2, fun j a b d => hc.2.2.2 j a b (ha j a b d)⟩
theorem cs_fL {h : Int} {L U : Int → Int} {Z : Nat → Int → Int} (hm : hmOk h (Z 201 0)) (hO : okS L U) (hr : csR h (Z 201 0) L U (Z 210) (Z 211)) : fL Z := fun k a b => by
  have rg := slF_rg hm ⟨a, b⟩
  have e := hr.1 k a b
  have := hO _ rg.1 rg.2.1
  rw [e.1, e.2]
  omega
theorem slF_3 {h m k : Int} (hm : hmOk h m) (hk : 0 ≤ k ∧ k < m) : slF h k / 3 = sdF h k := by
  unfold slF sdF
  unfold hmOk at hm
  split <;> omega
/-- at slot t of sl: the next table and the sums stand for the rows a of states and sums; B bounds the table's ways -/
def roX (B q h : Int) (sl t : Int) (Z : Nat → Int → Int) (a : Acc) : Prop :=
  ∃ (N : List (Int × Int)) (z : Ac3), tZ 9 Z N ∧ acF q h (Z 201 0) Z z ∧ (∀ x ∈ N, x.2 ≤ B) ∧ (Z 200 7 = 0 ∨ Z 200 7 = 1) ∧
    ((t + 1 < sl ∧ Z 200 7 = 0 ∧ N = mpC h (Z 201 0) a.1 ∧ z = a.2) ∨ (t + 1 < sl ∧ Z 200 7 = 1 ∧ 400 < a.1.length) ∨ (t + 1 = sl ∧ Z 200 7 = 0 ∧ N = [] ∧ z = a.1.foldl fin3 a.2))
theorem tZ9.kp {Z Z' : Nat → Int → Int} {N : List (Int × Int)} (h : tZ 9 Z N) {ks : List Nat} (hc : ch Z Z' ks) (hk : (!ks.contains 9 && !ks.contains 10 && !ks.contains 11 && !ks.contains 12) = true) : tZ 9 Z' N := by
  simp at hk
  unfold tZ at h ⊢
  rw [hc 9 (by simp [hk]), hc (9 + 1) (by simp [hk]), hc (9 + 2) (by simp [hk]), hc (9 + 3) (by simp [hk])]
  exact h
theorem roX.kp {B q h sl t : Int} {Z Z' : Nat → Int → Int} {a : Acc} (hr : roX B q h sl t Z a) (hm : Z 201 0 ≤ 6) {ks : List Nat} (hc : ch Z Z' ks) (hk : (!ks.contains 9 && !ks.contains 10 && !ks.contains 11 && !ks.contains 12 && !ks.contains 200 && !ks.contains 201 && !ks.contains 213 && !ks.contains 214 && !ks.contains 216 && !ks.contains 217 && !ks.contains 218 && !ks.contains 219 && !ks.contains 220 && !ks.contains 221) = true) : roX B q h sl t Z' a := by
  simp at hk
  obtain ⟨N, z, h1, h2, h3, h4, h5⟩ := hr
  have e1 := hc 200 (by simp [hk])
  have e2 := hc 201 (by simp [hk])
  refine ⟨N, z, tZ9.kp h1 hc (by simp [hk]), ?_, h3, by rw [e1]; exact h4, by rw [e1, e2]; exact h5⟩
  rw [e2]
  exact h2.kp hc hm (by simp [hk])
theorem roX.mono {B B' q h sl t : Int} {Z : Nat → Int → Int} {a : Acc} (hr : roX B q h sl t Z a) (hB : B ≤ B') : roX B' q h sl t Z a := by
  obtain ⟨N, z, h1, h2, h3, h4⟩ := hr
  exact ⟨N, z, h1, h2, fun x hx => Int.le_trans (h3 x hx) hB, h4⟩
theorem insN_bd {c n B : Int} {N : List (Int × Int)} (hN : ∀ x ∈ N, x.2 ≤ B) (hB : 0 ≤ B) (hn : 0 ≤ n) : ∀ x ∈ insN N c n, x.2 ≤ B + n := by
  induction N with
  | nil =>
    intro x hx
    have : x = (c, n) := by simpa [insN] using hx
    rw [this]
    dsimp only
    omega
  | cons y ys ih =>
    have h1 := hN y List.mem_cons_self
    intro x hx
    unfold insN at hx
    split at hx
    · rcases List.mem_cons.mp hx with q | q
      · rw [q]
        dsimp only
        omega
      · have := hN x (List.mem_cons_of_mem _ q)
        omega
    · rcases List.mem_cons.mp hx with q | q
      · rw [q]
        omega
      · exact ih (fun z hz => hN z (List.mem_cons_of_mem _ hz)) x q
theorem insN_len {c n : Int} : ∀ N : List (Int × Int), N.length ≤ (insN N c n).length
  | [] => Nat.zero_le _
  | x :: xs => by
    have := insN_len (c := c) (n := n) xs
    unfold insN
    split <;> simp only [List.length_cons] <;> omega
/-- what 'comes' does, seen as 'absorb' -/
theorem roX_comes {Su : Int → Int → Int} {B q h sl t rd w : Int} {Z Z' : Nat → Int → Int} {a : Acc} {N : List (Int × Int)} {z : Ac3} {L U : Int → Int} (hm : hmOk h (Z 201 0)) (hno : ∀ j : Int, 0 ≤ j → j < 6 → noS h (Z 201 0) j → Su 1 j = 0) (ha : ∀ x ∈ a.1, vC Su x.1) (hO : okS L U) (hv : vC Su (pkF L U 6)) (hw : 0 ≤ w) (hB : 0 ≤ B) (hsl : t + 1 ≤ sl) (hz1 : sl = Z 200 1)
    (h1 : tZ 9 Z N) (h2 : acF q h (Z 201 0) Z z) (h3 : ∀ x ∈ N, x.2 ≤ B) (h4 : Z 200 7 = 0 ∨ Z 200 7 = 1) (h5 : (t + 1 < sl ∧ Z 200 7 = 0 ∧ N = mpC h (Z 201 0) a.1 ∧ z = a.2) ∨ (t + 1 < sl ∧ Z 200 7 = 1 ∧ 400 < a.1.length) ∨ (t + 1 = sl ∧ Z 200 7 = 0 ∧ N = [] ∧ z = a.1.foldl fin3 a.2))
    (hp : (winF U = 2 ∧ t + 1 < Z 200 1 → ch Z Z' [200, 9, 10, 11, 12] ∧ (∀ j : Int, j ≠ 7 → Z' 200 j = Z 200 j) ∧ ((Z' 200 7 = Z 200 7 ∧ tZ 9 Z' (insN N (ckF h (Z 201 0) L U) w)) ∨ (Z' 200 7 = 1 ∧ tZ 9 Z' N ∧ 400 < (insN N (ckF h (Z 201 0) L U) w).length))) ∧ (¬ (winF U = 2 ∧ t + 1 < Z 200 1) → ch Z Z' [213, 214, 216, 217, 218, 219, 220, 221] ∧ acF q h (Z 201 0) Z' (cnt3 z (winF U) (rd + 1) (w * 6 ^ (Z 200 1 - (t + 1)).toNat) L U))) :
    (ch Z Z' [200, 9, 10, 11, 12, 213, 214, 216, 217, 218, 219, 220, 221] ∧ ∀ j : Int, j ≠ 7 → Z' 200 j = Z 200 j) ∧ roX (B + w) q h sl t Z' (absorb rd (6 ^ (sl - 1 - t).toNat) a (pkF L U 6, w)) := by
  have wr := winF_rg U
  have m6 : Z 201 0 ≤ 6 := by unfold hmOk at hm; omega
  have eck : ckF h (Z 201 0) L U = ckC h (Z 201 0) (pkF L U 6) := (ckF_cg hm (pk_ag hO).1 (pk_ag hO).2).symm
  subst hz1
  rw [absorb_pk hO]
  rcases Decidable.em (winF U = 2 ∧ t + 1 < Z 200 1) with hc | hc
  · obtain ⟨c1, c2, c3⟩ := hp.1 hc
    have e2 : Z' 201 = Z 201 := c1 201 (by decide)
    refine ⟨⟨ch.wd c1 (by decide), c2⟩, ?_⟩
    rw [if_neg (by omega)]
    have ha' : acF q h (Z 201 0) Z' z := h2.kp c1 m6 (by decide)
    rw [eck] at c3
    rcases h5 with ⟨f1, f2, f3, f4⟩ | ⟨f1, f2, f3⟩ | ⟨f1, -⟩
    · have ei : insN N (ckC h (Z 201 0) (pkF L U 6)) w = mpC h (Z 201 0) (insN a.1 (pkF L U 6) w) := by rw [f3, mpC_ins hm hno hv a.1 ha]
      rcases c3 with ⟨g1, g2⟩ | ⟨g1, g2, g3⟩
      · exact ⟨_, z, g2, by rw [e2]; exact ha', insN_bd h3 hB hw, by rw [g1]; exact h4, Or.inl ⟨f1, by rw [g1]; exact f2, by rw [e2]; exact ei, f4⟩⟩
      · exact ⟨N, z, g2, by rw [e2]; exact ha', fun x hx => by have := h3 x hx; omega, Or.inr g1, Or.inr (Or.inl ⟨f1, g1, by rw [ei, mpC_len] at g3; exact g3⟩)⟩
    · have hl : 400 < (insN a.1 (pkF L U 6) w).length := Nat.lt_of_lt_of_le f3 (insN_len a.1)
      rcases c3 with ⟨g1, g2⟩ | ⟨g1, g2, g3⟩
      · exact ⟨_, z, g2, by rw [e2]; exact ha', insN_bd h3 hB hw, by rw [g1]; exact h4, Or.inr (Or.inl ⟨f1, by rw [g1]; exact f2, hl⟩)⟩
      · exact ⟨N, z, g2, by rw [e2]; exact ha', fun x hx => by have := h3 x hx; omega, Or.inr g1, Or.inr (Or.inl ⟨f1, g1, hl⟩)⟩
    · exfalso
      omega
  · obtain ⟨c1, c2⟩ := hp.2 hc
    have e1 : Z' 200 = Z 200 := c1 200 (by decide)
    have e2 : Z' 201 = Z 201 := c1 201 (by decide)
    have t9 : tZ 9 Z' N := tZ9.kp h1 c1 (by decide)
    have hb : ∀ x ∈ N, x.2 ≤ B + w := fun x hx => by have := h3 x hx; omega
    refine ⟨⟨ch.wd c1 (by decide), fun j _ => by rw [e1]⟩, ?_⟩
    rw [show (Z 200 1 - (t + 1)).toNat = (Z 200 1 - 1 - t).toNat by omega] at c2
    rcases Int.lt_or_le (winF U) 2 with hu | hu
    · rw [if_pos hu]
      refine ⟨N, _, t9, by rw [e2]; exact c2, hb, by rw [e1]; exact h4, ?_⟩
      rw [e1, e2]
      rcases h5 with ⟨f1, f2, f3, f4⟩ | ⟨f1, f2, f3⟩ | ⟨f1, f2, f3, f4⟩
      · exact Or.inl ⟨f1, f2, f3, by rw [f4]⟩
      · exact Or.inr (Or.inl ⟨f1, f2, f3⟩)
      · refine Or.inr (Or.inr ⟨f1, f2, f3, ?_⟩)
        rw [f4]
        exact (fin_cnt _ _).symm
    · rw [if_neg (by omega)]
      have et : t + 1 = Z 200 1 := by omega
      refine ⟨N, _, t9, by rw [e2]; exact c2, hb, by rw [e1]; exact h4, ?_⟩
      rw [e1, e2]
      rcases h5 with ⟨f1, -⟩ | ⟨f1, -⟩ | ⟨f1, f2, f3, f4⟩
      · exfalso; omega
      · exfalso; omega
      · refine Or.inr (Or.inr ⟨f1, f2, f3, ?_⟩)
        rw [fin_ins, f4, show (Z 200 1 - 1 - t).toNat = 0 by omega, Int.pow_zero, Int.mul_one]
        unfold fin3 cnt3
        dsimp only
        rw [show winF U = 2 by omega, cLf_cg (pk_ag hO).1 (pk_ag hO).2 6 (Nat.le_refl 6)]
        rfl
theorem win_up {h m : Int} {L U l u sd : Int → Int} (hm : hmOk h m) (hr : csR h m L U l u) (hs : sdOk h m sd) (hw : winF U = 2) : thF u sd 0 m.toNat = 1 ∧ thF u sd 1 m.toNat = 1 := by
  obtain ⟨a, b, c, d⟩ := thF_win hm hr hs
  have h2 := win2 hw
  refine ⟨?_, ?_⟩
  · rcases c with q | q
    · have := a.mp q
      omega
    · exact q
  · rcases d with q | q
    · have := b.mp q
      omega
    · exact q
