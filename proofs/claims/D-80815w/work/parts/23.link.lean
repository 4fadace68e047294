/-! THE MODEL's arrays held against a fight's odds -/
/-- the three rows of counts -/
def acR (V : Nat → Int → Int) (z : Ac3) : Prop :=
  (∀ k : Int, 0 ≤ k → k < 3 → V 13 k = z.1 k) ∧ (∀ k : Int, 0 ≤ k → k < 7 → V 14 k = z.2.1 k) ∧ (∀ k : Int, 0 ≤ k → k < 252 → V 15 k = z.2.2 k)
theorem acR.kp {V V' : Nat → Int → Int} {z : Ac3} (h : acR V z) {ks : List Nat} (hc : ch V V' ks) (hk : (!ks.contains 13 && !ks.contains 14 && !ks.contains 15) = true) : acR V' z := by
  simp at hk
  unfold acR
  rw [hc 13 hk.1.1, hc 14 hk.1.2, hc 15 hk.2]
  exact h
theorem acR.cnt {V V' : Nat → Int → Int} {z : Ac3} (h : acR V z) {e rd n : Int} {L U L' U' : Int → Int} (hL : ag L' L) (hU : ag U' U)
    (h13 : V' 13 = uI (V 13) e (V 13 e + n)) (h14 : V' 14 = if e < 2 then uI (V 14) rd (V 14 rd + n) else V 14) (h15 : V' 15 = cLf (V 15) L' U' n 6) : acR V' (cnt3 z e rd n L U) := by
  obtain ⟨a, b, c⟩ := h
  refine ⟨fun k h1 h2 => ?_, fun k h1 h2 => ?_, fun k h1 h2 => ?_⟩
  · rw [h13]
    show _ = uI z.1 e (z.1 e + n) k
    unfold uI
    split
    · rename_i q
      rw [← q, a k h1 h2]
    · exact a k h1 h2
  · rw [h14]
    show _ = (if e < 2 then uI z.2.1 rd (z.2.1 rd + n) else z.2.1) k
    split
    · unfold uI
      split
      · rename_i q
        rw [← q, b k h1 h2]
      · exact b k h1 h2
    · exact b k h1 h2
  · rw [h15, cLf_cg hL hU 6 (Nat.le_refl 6)]
    exact cLf_pt (c k h1 h2) 6
/-- counts and the row of states together -/
def RB (F : Nat → Int) (V : Nat → Int → Int) (a : Acc) : Prop := NLI (F 16) V a.1 ∧ acR V a.2
theorem RB.kp {F F' : Nat → Int} {V V' : Nat → Int → Int} {a : Acc} (h : RB F V a) {ks : List Nat} (hF : F' 16 = F 16) (hc : ch V V' ks) (hk : (!ks.contains 10 && !ks.contains 11 && !ks.contains 12 && !ks.contains 13 && !ks.contains 14 && !ks.contains 15) = true) : RB F' V' a := by
  have hk2 : (!ks.contains 13 && !ks.contains 14 && !ks.contains 15) = true := by simp at hk ⊢; simp [hk]
  simp at hk
  refine ⟨?_, h.2.kp hc hk2⟩
  rw [hF]
  exact h.1.cg (hc 10 (by simp [hk])) (hc 11 (by simp [hk])) (hc 12 (by simp [hk]))
theorem RB.comes {F F' : Nat → Int} {V V' : Nat → Int → Int} {a : Acc} (h : RB F V a) {n c : Int} (hp : pkF (V 6) (V 7) 6 = c) (q : ch F F' [16] ∧ ch V V' [10, 11, 12] ∧ NLI (F' 16) V' (insN a.1 (pkF (V 6) (V 7) 6) n) ∧ F' 16 ≤ F 16 + 1) : RB F' V' (insN a.1 c n, a.2) := by
  rw [hp] at q
  exact ⟨q.2.2.1, h.2.kp q.2.1 (by decide)⟩
theorem RB.goes {F F' : Nat → Int} {V V' : Nat → Int → Int} {a : Acc} (h : RB F V a) {n d r c : Int} (hO : okS (V 6) (V 7)) (hp : pkF (V 6) (V 7) 6 = c)
    (q : (winF (V 7) < 2 ∧ F' = F ∧ ch V V' [13, 14, 15] ∧ V' 13 = uI (V 13) (winF (V 7)) (V 13 (winF (V 7)) + n * r) ∧ V' 14 = uI (V 14) (d + 1) (V 14 (d + 1) + n * r) ∧ V' 15 = cLf (V 15) (V 6) (V 7) (n * r) 6) ∨ (winF (V 7) = 2 ∧ ch F F' [16] ∧ ch V V' [10, 11, 12] ∧ NLI (F' 16) V' (insN a.1 (pkF (V 6) (V 7) 6) n) ∧ F' 16 ≤ F 16 + 1)) :
    RB F' V' (absorb d r a (c, n)) ∧ ch F F' [16] ∧ ch V V' [10, 11, 12, 13, 14, 15] ∧ F' 16 ≤ F 16 + 1 := by
  rw [← hp, absorb_pk hO]
  rcases q with ⟨h1, h2, h3, h4, h5, h6⟩ | ⟨h1, h2, h3, h4, h5⟩
  · rw [if_pos h1]
    subst h2
    exact ⟨⟨h.1.cg (h3 10 (by decide)) (h3 11 (by decide)) (h3 12 (by decide)), h.2.cnt ag.rf ag.rf h4 (by rw [if_pos h1]; exact h5) h6⟩, ch.rf, fun j hj => h3 j (fun z => hj (by simp at z ⊢; omega)), by omega⟩
  · rw [if_neg (by omega)]
    exact ⟨⟨h4, h.2.kp h3 (by decide)⟩, h2, fun j hj => h3 j (fun z => hj (by simp at z ⊢; omega)), h5⟩
/-- a slot's step, by what befalls -/
theorem st_none {Su : Int → Int → Int} {k rd rest : Int} {a : Acc} {s : Int × Int} (hw : winF (ufD s.1) = 2) (h : ufD s.1 k = 0 ∨ (rd = 0 ∧ Su 6 1 = k / 3)) : stepS Su k rd rest a s = (insN a.1 s.1 (6 * s.2), a.2) := by
  unfold stepS turnC
  rw [if_pos h]
  exact absorb_c (Su := Su) hw
theorem st_flee {Su : Int → Int → Int} {k rd rest : Int} {a : Acc} {s : Int × Int} (h : ¬ (ufD s.1 k = 0 ∨ (rd = 0 ∧ Su 6 1 = k / 3))) (h2 : lfD s.1 k ≤ Su 4 k) : stepS Su k rd rest a s = absorb rd rest a (pkF (lfD s.1) (uI (ufD s.1) k 0) 6, 6 * s.2) := by
  unfold stepS turnC
  rw [if_neg h, if_pos h2]
  rfl
theorem st_turn {Su : Int → Int → Int} {k rd rest : Int} {a : Acc} {s : Int × Int} (hw : winF (ufD s.1) = 2) (h : ¬ (ufD s.1 k = 0 ∨ (rd = 0 ∧ Su 6 1 = k / 3))) (h2 : ¬ lfD s.1 k ≤ Su 4 k) :
    stepS Su k rd rest a s = if 0 < Su 2 k then absorb rd rest (if Su 2 k < 6 then (insN a.1 s.1 ((6 - Su 2 k) * s.2), a.2) else a) (pkF (hitP (Su 0 k) (Su 3 k) (Su 6 0) (Su 1) (lfD s.1) (ufD s.1) k).1 (hitP (Su 0 k) (Su 3 k) (Su 6 0) (Su 1) (lfD s.1) (ufD s.1) k).2 6, Su 2 k * s.2) else (if Su 2 k < 6 then (insN a.1 s.1 ((6 - Su 2 k) * s.2), a.2) else a) := by
  unfold stepS turnC
  rw [if_neg h, if_neg h2, List.foldl_append]
  have e : ((if Su 2 k < 6 then [(s.1, (6 - Su 2 k) * s.2)] else []).foldl (absorb rd rest) a) = (if Su 2 k < 6 then (insN a.1 s.1 ((6 - Su 2 k) * s.2), a.2) else a) := by
    split
    · exact absorb_c (Su := Su) hw
    · rfl
  rw [e]
  generalize (if Su 2 k < 6 then (insN a.1 s.1 ((6 - Su 2 k) * s.2), a.2) else a) = b
  split <;> rfl
/-- what holds through a fight's works: the setting Su of the arrays, sl slots -/
def wk (Su : Int → Int → Int) (sl : Int) (F : Nat → Int) (V : Nat → Int → Int) : Prop :=
  (SI F V) ∧
  (∀ j : Int, 0 ≤ j → j < 6 → -1 ≤ V 3 j ∧ V 3 j < F 0) ∧
  (∀ j : Int, 0 ≤ j → j < 6 → 0 ≤ V 4 j ∧ V 4 j ≤ 9) ∧
  (∀ k : Int, 0 ≤ k → k < 6 → V 3 k = -1 → Su 1 k = 0) ∧
  (∀ k : Int, 0 ≤ k → k < 6 → V 3 k ≠ -1 → Su 0 k = V 1 (6 * V 3 k) ∧ Su 1 k = V 1 (6 * V 3 k + 1) ∧ Su 2 k = V 1 (6 * V 3 k + 2) ∧ Su 3 k = V 1 (6 * V 3 k + 3) + V 4 k ∧ Su 4 k = V 1 (6 * V 3 k + 4)) ∧
  (Su 6 0 = F 4) ∧
  (Su 6 1 = F 8 ∧ -1 ≤ F 8 ∧ F 8 ≤ 1) ∧
  (Su 6 2 = F 9) ∧
  (∀ j : Int, 0 ≤ j → j < F 9 → Su 5 j = V 5 j) ∧
  (okSu Su) ∧
  (sl = F 3 * F 9 ∧ 0 ≤ sl)
theorem wk.I {Su : Int → Int → Int} {sl : Int} {F : Nat → Int} {V : Nat → Int → Int} (h : wk Su sl F V) : SI F V := h.1
theorem wk.W {Su : Int → Int → Int} {sl : Int} {F : Nat → Int} {V : Nat → Int → Int} (h : wk Su sl F V) : ∀ j : Int, 0 ≤ j → j < 6 → -1 ≤ V 3 j ∧ V 3 j < F 0 := h.2.1
theorem wk.B {Su : Int → Int → Int} {sl : Int} {F : Nat → Int} {V : Nat → Int → Int} (h : wk Su sl F V) : ∀ j : Int, 0 ≤ j → j < 6 → 0 ≤ V 4 j ∧ V 4 j ≤ 9 := h.2.2.1
theorem wk.gone {Su : Int → Int → Int} {sl : Int} {F : Nat → Int} {V : Nat → Int → Int} (h : wk Su sl F V) : ∀ k : Int, 0 ≤ k → k < 6 → V 3 k = -1 → Su 1 k = 0 := h.2.2.2.1
theorem wk.here {Su : Int → Int → Int} {sl : Int} {F : Nat → Int} {V : Nat → Int → Int} (h : wk Su sl F V) : ∀ k : Int, 0 ≤ k → k < 6 → V 3 k ≠ -1 → Su 0 k = V 1 (6 * V 3 k) ∧ Su 1 k = V 1 (6 * V 3 k + 1) ∧ Su 2 k = V 1 (6 * V 3 k + 2) ∧ Su 3 k = V 1 (6 * V 3 k + 3) + V 4 k ∧ Su 4 k = V 1 (6 * V 3 k + 4) := h.2.2.2.2.1
theorem wk.aim {Su : Int → Int → Int} {sl : Int} {F : Nat → Int} {V : Nat → Int → Int} (h : wk Su sl F V) : Su 6 0 = F 4 := h.2.2.2.2.2.1
theorem wk.st {Su : Int → Int → Int} {sl : Int} {F : Nat → Int} {V : Nat → Int → Int} (h : wk Su sl F V) : Su 6 1 = F 8 ∧ -1 ≤ F 8 ∧ F 8 ≤ 1 := h.2.2.2.2.2.2.1
theorem wk.many {Su : Int → Int → Int} {sl : Int} {F : Nat → Int} {V : Nat → Int → Int} (h : wk Su sl F V) : Su 6 2 = F 9 := h.2.2.2.2.2.2.2.1
theorem wk.ord {Su : Int → Int → Int} {sl : Int} {F : Nat → Int} {V : Nat → Int → Int} (h : wk Su sl F V) : ∀ j : Int, 0 ≤ j → j < F 9 → Su 5 j = V 5 j := h.2.2.2.2.2.2.2.2.1
theorem wk.ok {Su : Int → Int → Int} {sl : Int} {F : Nat → Int} {V : Nat → Int → Int} (h : wk Su sl F V) : okSu Su := h.2.2.2.2.2.2.2.2.2.1
theorem wk.sl_ {Su : Int → Int → Int} {sl : Int} {F : Nat → Int} {V : Nat → Int → Int} (h : wk Su sl F V) : sl = F 3 * F 9 ∧ 0 ≤ sl := h.2.2.2.2.2.2.2.2.2.2
theorem wk.kp {Su : Int → Int → Int} {sl : Int} {F F' : Nat → Int} {V V' : Nat → Int → Int} (h : wk Su sl F V) (hF : ch F F' [13, 16, 23]) (hV : ch V V' [6, 7, 8, 9, 10, 11, 12, 13, 14, 15, 16]) : wk Su sl F' V' := by
  have hI := h.I.ch (F' := F') (V' := V') (fun j hj => hF j (fun z => hj (by simp at z ⊢; omega))) (fun j hj => hV j (fun z => hj (by simp at z ⊢; omega)))
  have e0 := hF 0 (by decide)
  have e3 := hF 3 (by decide)
  have e4 := hF 4 (by decide)
  have e8 := hF 8 (by decide)
  have e9 := hF 9 (by decide)
  have f1 := hV 1 (by decide)
  have f3 := hV 3 (by decide)
  have f4 := hV 4 (by decide)
  have f5 := hV 5 (by decide)
  exact ⟨hI, by rw [e0, f3]; exact h.W, by rw [f4]; exact h.B, by rw [f3]; exact h.gone, by rw [f1, f3, f4]; exact h.here, by rw [e4]; exact h.aim, by rw [e8]; exact h.st, by rw [e9]; exact h.many, by rw [e9, f5]; exact h.ord, h.ok, by rw [e3, e9]; exact h.sl_⟩
/-- who is up stands there -/
theorem wk.up {Su : Int → Int → Int} {sl : Int} {F : Nat → Int} {V : Nat → Int → Int} (h : wk Su sl F V) {L U : Int → Int} {c : Int} (hc : vC Su c) (hU : ag U (ufD c)) {k : Int} (h1 : 0 ≤ k) (h2 : k < 6) (hu : U k ≠ 0) : V 3 k ≠ -1 := fun q => by
  rw [hU k h1 h2] at hu
  exact hu (hc.2.2.2 k h1 h2 (h.gone k h1 h2 q)).2
theorem vC.ok {Su : Int → Int → Int} {c : Int} (hc : vC Su c) {L U : Int → Int} (hL : ag L (lfD c)) (hU : ag U (ufD c)) : okS L U := fun k a b => by
  rw [hL k a b, hU k a b]
  exact hc.2.1 k a b
theorem vC.pk {Su : Int → Int → Int} {c : Int} (hc : vC Su c) {L U : Int → Int} (hL : ag L (lfD c)) (hU : ag U (ufD c)) : pkF L U 6 = c :=
  (pkF_cg 6 (fun k a b => ⟨hL k a b, hU k a b⟩)).trans hc.2.2.1
/-- a hit in the arrays is the hit of the setting -/
theorem wk.hit {Su : Int → Int → Int} {sl : Int} {F : Nat → Int} {V V' : Nat → Int → Int} (h : wk Su sl F V) {c k : Int} (hc : vC Su c) (hL : ag (V 6) (lfD c)) (hU : ag (V 7) (ufD c)) (hk : 0 ≤ k ∧ k < 6) (hw : winF (ufD c) = 2) (hu : ufD c k ≠ 0)
    (q6 : V' 6 = (hitP (V 1 (6 * V 3 k)) (V 1 (6 * V 3 k + 3) + V 4 k) (F 4) (fun j => V 1 (6 * V 3 j + 1)) (V 6) (V 7) k).1) (q7 : V' 7 = (hitP (V 1 (6 * V 3 k)) (V 1 (6 * V 3 k + 3) + V 4 k) (F 4) (fun j => V 1 (6 * V 3 j + 1)) (V 6) (V 7) k).2) :
    okS (V' 6) (V' 7) ∧ pkF (V' 6) (V' 7) 6 = pkF (hitP (Su 0 k) (Su 3 k) (Su 6 0) (Su 1) (lfD c) (ufD c) k).1 (hitP (Su 0 k) (Su 3 k) (Su 6 0) (Su 1) (lfD c) (ufD c) k).2 6 := by
  have h3 := h.up (L := V 6) hc hU hk.1 hk.2 (by rw [hU k hk.1 hk.2]; exact hu)
  obtain ⟨e0, e1, e2, e3, e4⟩ := h.here k hk.1 hk.2 h3
  have hcg := hit_cg hL hU (kd := Su 0 k) (fo := Su 3 k) (aim := Su 6 0) (full' := fun j => V 1 (6 * V 3 j + 1)) (full := Su 1) hk hw (fun j a b cu => ((h.here j a b (h.up (L := V 6) hc hU a b (by rw [hU j a b]; exact cu))).2.1).symm)
  rw [← e0, ← e3, ← h.aim] at q6 q7
  rw [← q6, ← q7] at hcg
  have hs : okS (hitP (Su 0 k) (Su 3 k) (Su 6 0) (Su 1) (lfD c) (ufD c) k).1 (hitP (Su 0 k) (Su 3 k) (Su 6 0) (Su 1) (lfD c) (ufD c) k).2 := okS.hit hc.2.1 (h.ok.1 k hk.1 hk.2).2.2.2.1.1 (fun j a b _ => (h.ok.1 j a b).2.1) hk hu
  exact ⟨fun j a b => by rw [hcg.1 j a b, hcg.2 j a b]; exact hs j a b, pkF_cg 6 (fun j a b => ⟨hcg.1 j a b, hcg.2 j a b⟩)⟩
/-- the states that are ahead, in the arrays -/
def AH (F : Nat → Int) (V : Nat → Int → Int) (S : List (Int × Int)) : Prop := F 13 = S.length ∧ ∀ (j : Nat) (x : Int × Int), S[j]? = some x → V 8 j = x.1 ∧ V 9 j = x.2
theorem AH.kp {F F' : Nat → Int} {V V' : Nat → Int → Int} {S : List (Int × Int)} (h : AH F V S) {ks : List Nat} (hF : F' 13 = F 13) (hc : ch V V' ks) (hk : (!ks.contains 8 && !ks.contains 9) = true) : AH F' V' S := by
  simp at hk
  unfold AH
  rw [hF, hc 8 hk.1, hc 9 hk.2]
  exact h
theorem AH.at {F : Nat → Int} {V : Nat → Int → Int} {S : List (Int × Int)} (h : AH F V S) {i : Int} (hi : 0 ≤ i ∧ i < F 13) : ∃ s, S[i.toNat]? = some s ∧ s ∈ S ∧ V 8 i = s.1 ∧ V 9 i = s.2 := by
  have hl : i.toNat < S.length := by have := h.1; omega
  have hx : S[i.toNat]? = some S[i.toNat] := List.getElem?_eq_getElem hl
  have := h.2 _ _ hx
  rw [Int.toNat_of_nonneg hi.1] at this
  exact ⟨_, hx, List.getElem_mem hl, this⟩
theorem take_s {α : Type} {S : List α} {i : Int} {s : α} (hi : 0 ≤ i) (h : S[i.toNat]? = some s) : S.take (i + 1).toNat = S.take i.toNat ++ [s] := by
  rw [show (i + 1).toNat = i.toNat + 1 by omega, List.take_add_one, h]
  rfl
theorem fold_s {α β : Type} {f : β → α → β} {b : β} {S : List α} {i : Int} {s : α} (hi : 0 ≤ i) (h : S[i.toNat]? = some s) : (S.take (i + 1).toNat).foldl f b = f ((S.take i.toNat).foldl f b) s := by
  rw [take_s hi h, List.foldl_append]
  rfl
theorem fold_all {α β : Type} {f : β → α → β} {b : β} {S : List α} {i : Int} (h : (S.length : Int) ≤ i) : (S.take i.toNat).foldl f b = S.foldl f b := by
  rw [List.take_of_length_le (by omega)]
theorem ch.wd {α : Type} {f f' : Nat → α} {ks k1 : List Nat} (h1 : ch f f' k1) (hk : (k1.all (fun k => ks.contains k)) = true) : ch f f' ks := ch.tr h1 (ch.rf (ks := [])) (by rw [hk]; rfl)
theorem numF_w {w v : Int} (h : numF w v = 1) : (w = 0 → 0 ≤ v ∧ v ≤ 2) ∧ (w = 1 → 1 ≤ v ∧ v ≤ 20) ∧ (w = 2 → 0 ≤ v ∧ v ≤ 6) ∧ (w = 3 → 1 ≤ v ∧ v ≤ 9) ∧ (w = 4 → 0 ≤ v ∧ v ≤ 19) := by
  unfold numF inF at h
  refine ⟨fun q => ?_, fun q => ?_, fun q => ?_, fun q => ?_, fun q => ?_⟩ <;> subst q <;> simp at h <;> omega
theorem ordA_pos {who sp o : Int → Int} {k : Int} (hk : 0 ≤ k) (hw : who k ≠ -1) : ∀ n : Nat, k < n → 0 < (ordA who sp o n).2
  | 0, h => by omega
  | n + 1, h => by
    unfold ordA
    split
    · rename_i q
      exact ordA_pos hk hw n (by rcases Decidable.em (k = n) with z | z; exact absurd q (z ▸ hw); omega)
    · exact Nat.succ_pos _
theorem suF_lo {num who : Int → Int} {bo aim st rounds r k : Int} (h : r < 5) : suF num who bo aim st rounds r k = if who k = -1 then 0 else num (6 * who k + r) + (if r = 3 ∧ k < 3 then bo else 0) := if_pos h
/-- a side set up, and a fight begun: the setting -/
theorem wk.of {F F' : Nat → Int} {V V' : Nat → Int → Int} {wh : Int → Int} {bo sl : Int} {Su : Int → Int → Int} (hSu : Su = suF (V 1) wh bo (F 4) (F 8) (F 3)) (hsl : sl = F 3 * Su 6 2)
    (hI : SI F V) (hW : ∀ j : Int, 0 ≤ j → j < 6 → -1 ≤ V 3 j ∧ V 3 j < F 0) (hwh : ∀ j : Int, 0 ≤ j → j < 6 → V 3 j = wh j) (hbo : 0 ≤ bo ∧ bo ≤ 9) (h4 : ∀ j : Int, 0 ≤ j → j < 6 → V 4 j = if j < 3 then bo else 0) (h8 : -1 ≤ F 8 ∧ F 8 ≤ 1)
    (hp : ch F F' [9] ∧ ch V V' [5, 6, 7] ∧ F' 9 = ((ordA (V 3) (fun j => V 1 (6 * V 3 j + 5)) (V 5) 6).2 : Int) ∧ V' 5 = (ordA (V 3) (fun j => V 1 (6 * V 3 j + 5)) (V 5) 6).1 ∧ ∀ k : Int, 0 ≤ k → k < 6 → V' 6 k = (if V 3 k = -1 then 0 else V 1 (6 * V 3 k + 1)) ∧ V' 7 k = (if V 3 k = -1 then 0 else 1)) :
    wk Su sl F' V' ∧ F' 9 = Su 6 2 ∧ ag (V' 6) (Su 1) ∧ ag (V' 7) (U0 Su) ∧ okS (V' 6) (V' 7) ∧ (0 ≤ sl ∧ sl ≤ 36) ∧ (winF (U0 Su) = 2 → 1 ≤ Su 6 2 ∧ 1 ≤ sl) := by
  obtain ⟨p1, p2, p3, p4, p5⟩ := hp
  have hI' := hI.ch (F' := F') (V' := V') (fun j hj => p1 j (fun z => hj (by simp at z ⊢; omega))) (fun j hj => p2 j (fun z => hj (by simp at z ⊢; omega)))
  have hn := hI.nums
  have e0 := p1 0 (by decide)
  have e3 := p1 3 (by decide)
  have e4 := p1 4 (by decide)
  have e8 := p1 8 (by decide)
  have f1 := p2 1 (by decide)
  have f3 := p2 3 (by decide)
  have f4 := p2 4 (by decide)
  have hcg := ordA_cg (who := wh) (who' := V 3) (sp := fun j => V 1 (6 * wh j + 5)) (sp' := fun j => V 1 (6 * V 3 j + 5)) (o := fun _ => 0) (o' := V 5) 6 (fun k a b => ⟨hwh k a b, by rw [hwh k a b]⟩)
  have hok := ordA_ok (who := wh) (sp := fun j => V 1 (6 * wh j + 5)) (o := fun _ => 0) 6
  have s2 : Su 6 2 = ((ordA wh (fun j => V 1 (6 * wh j + 5)) (fun _ => 0) 6).2 : Int) := by subst hSu; rfl
  have s5 : Su 5 = (ordA wh (fun j => V 1 (6 * wh j + 5)) (fun _ => 0) 6).1 := by subst hSu; rfl
  have h9 : F' 9 = Su 6 2 := by rw [s2, p3, hcg.1]
  have lo : ∀ r k : Int, r < 5 → Su r k = if wh k = -1 then 0 else V 1 (6 * wh k + r) + (if r = 3 ∧ k < 3 then bo else 0) := fun r k h => by subst hSu; exact suF_lo h
  have hnum : ∀ r k : Int, 0 ≤ k → k < 6 → 0 ≤ r → r < 6 → wh k ≠ -1 → numF r (V 1 (6 * wh k + r)) = 1 := fun r k a b c d e => by
    have := hW k a b
    rw [hwh k a b] at this
    exact hI.num (by omega)
  have life : ∀ k : Int, 0 ≤ k → k < 6 → Su 1 k = (if wh k = -1 then 0 else V 1 (6 * wh k + 1)) := fun k a b => by
    rw [lo 1 k (by decide)]
    split <;> simp
  have up : ∀ k : Int, 0 ≤ k → k < 6 → U0 Su k = (if wh k = -1 then 0 else 1) := fun k a b => by
    unfold U0
    rw [life k a b]
    rcases Decidable.em (wh k = -1) with q | q
    · rw [if_pos q, if_pos q]
      rfl
    · have := (numF_w (hnum 1 k a b (by decide) (by decide) q)).2.1 rfl
      rw [if_neg q, if_neg q, if_neg (by omega)]
  have hm : 0 ≤ Su 6 2 ∧ Su 6 2 ≤ 6 := by
    have := hok.1
    rw [s2]
    omega
  have slr : 0 ≤ sl ∧ sl ≤ 36 := by
    rw [hsl]
    exact ⟨Int.mul_nonneg (by omega) hm.1, Int.le_trans (Int.mul_le_mul_of_nonneg_right hn.2.1.2 hm.1) (by omega)⟩
  have a6 : ag (V' 6) (Su 1) := fun k a b => by rw [(p5 k a b).1, life k a b, hwh k a b]
  have a7 : ag (V' 7) (U0 Su) := fun k a b => by rw [(p5 k a b).2, up k a b, hwh k a b]
  have hS : okSu Su := by
    refine ⟨fun k a b => ?_, hm, fun j a b => ?_⟩
    · rw [lo 0 k (by decide), lo 1 k (by decide), lo 2 k (by decide), lo 3 k (by decide), lo 4 k (by decide)]
      rcases Decidable.em (wh k = -1) with q | q
      · simp [q]
      · have n0 := (numF_w (hnum 0 k a b (by decide) (by decide) q)).1 rfl
        have n1 := (numF_w (hnum 1 k a b (by decide) (by decide) q)).2.1 rfl
        have n2 := (numF_w (hnum 2 k a b (by decide) (by decide) q)).2.2.1 rfl
        have n3 := (numF_w (hnum 3 k a b (by decide) (by decide) q)).2.2.2.1 rfl
        have n4 := (numF_w (hnum 4 k a b (by decide) (by decide) q)).2.2.2.2 rfl
        rw [if_neg q, if_neg q, if_neg q, if_neg q, if_neg q, if_neg (by omega), if_neg (by omega), if_neg (by omega), if_neg (c := (4 : Int) = 3 ∧ k < 3) (by omega)]
        have : 0 ≤ (if (3 : Int) = 3 ∧ k < 3 then bo else 0) ∧ (if (3 : Int) = 3 ∧ k < 3 then bo else 0) ≤ 9 := by split <;> omega
        omega
    · rw [s2] at b
      rw [s5]
      have := hok.2 j a b
      refine ⟨by have := this.1; omega, ?_⟩
      rw [life _ this.1.1 (by have := this.1.2; omega), if_neg this.2]
      have := (numF_w (hnum 1 _ this.1.1 (by have := this.1.2; omega) (by decide) (by decide) this.2)).2.1 rfl
      omega
  refine ⟨⟨hI', ?_, ?_, ?_, ?_, ?_, ?_, ?_, ?_, hS, ?_⟩, h9, a6, a7, ?_, slr, ?_⟩
  · rw [e0, f3]
    exact hW
  · rw [f4]
    intro j a b
    rw [h4 j a b]
    split <;> omega
  · rw [f3]
    intro k a b c
    rw [life k a b, if_pos (by rw [← hwh k a b]; exact c)]
  · rw [f1, f3, f4]
    intro k a b c
    have c' : wh k ≠ -1 := by rw [← hwh k a b]; exact c
    rw [lo 0 k (by decide), lo 1 k (by decide), lo 2 k (by decide), lo 3 k (by decide), lo 4 k (by decide), if_neg c', if_neg c', if_neg c', if_neg c', if_neg c', hwh k a b, h4 k a b]
    refine ⟨by simp, by simp, by simp, ?_, by simp⟩
    congr 1
    split <;> split <;> omega
  · subst hSu
    exact e4.symm
  · rw [e8]
    exact ⟨by subst hSu; rfl, h8⟩
  · exact h9.symm
  · intro j a b
    rw [h9, s2] at b
    rw [p4, s5]
    exact (hcg.2 j a b).symm
  · rw [e3, h9]
    exact ⟨hsl, slr.1⟩
  · intro k a b
    rw [a6 k a b, a7 k a b]
    exact ⟨(hS.1 k a b).2.1, by rw [up k a b]; split <;> omega⟩
  · intro hw
    have h2 := win2 hw
    have : 0 < (ordA wh (fun j => V 1 (6 * wh j + 5)) (fun _ => 0) 6).2 := by
      have hp : ∀ k : Int, 0 ≤ k → k < 6 → U0 Su k ≠ 0 → 0 < (ordA wh (fun j => V 1 (6 * wh j + 5)) (fun _ => 0) 6).2 := fun k a b c => ordA_pos a (fun q => c (by rw [up k a b, if_pos q])) 6 b
      rcases h2.1 with q | q | q
      · exact hp 0 (by decide) (by decide) q
      · exact hp 1 (by decide) (by decide) q
      · exact hp 2 (by decide) (by decide) q
    have h1 : 1 ≤ Su 6 2 := by rw [s2]; omega
    refine ⟨h1, ?_⟩
    rw [hsl]
    have := Int.mul_pos (a := F 3) (b := Su 6 2) (by omega) (by omega)
    omega
theorem AH.one {F : Nat → Int} {V : Nat → Int → Int} {c w : Int} (h13 : F 13 = 1) (h8 : V 8 0 = c) (h9 : V 9 0 = w) : AH F V [(c, w)] :=
  ⟨h13, fun j x hx => by
    cases j with
    | zero =>
      rw [List.getElem?_cons_zero] at hx
      cases hx
      exact ⟨h8, h9⟩
    | succ j => simp at hx⟩
theorem AH.of {F : Nat → Int} {V V0 : Nat → Int → Int} {S : List (Int × Int)} {b : Int} (h13 : F 13 = b) (hN : NLI b V0 S) (h : ∀ u : Int, 0 ≤ u → u < b → V 8 u = V0 10 u ∧ V 9 u = V0 11 u) : AH F V S :=
  ⟨by rw [h13, hN.1], fun j x hx => by
    have hl := (List.getElem?_eq_some_iff.mp hx).1
    have := h j (by omega) (by have := hN.1; omega)
    have h2 := hN.2.2.1 j x hx
    rw [this.1, this.2]
    exact h2.1⟩
theorem NLI.at {b : Int} {V : Nat → Int → Int} {S : List (Int × Int)} (h : NLI b V S) {i : Int} (hi : 0 ≤ i ∧ i < b) : ∃ s, S[i.toNat]? = some s ∧ s ∈ S ∧ V 10 i = s.1 ∧ V 11 i = s.2 := by
  have hl : i.toNat < S.length := by have := h.1; omega
  have hx : S[i.toNat]? = some S[i.toNat] := List.getElem?_eq_getElem hl
  have := (h.2.2.1 _ _ hx).1
  rw [Int.toNat_of_nonneg hi.1] at this
  exact ⟨_, hx, List.getElem_mem hl, this⟩
theorem RB.nil {F : Nat → Int} {V : Nat → Int → Int} {z : Ac3} (h16 : F 16 = 0) (hz : ∀ k : Int, 0 ≤ k → k < 2048 → V 12 k = 0) (hA : acR V z) : RB F V ([], z) :=
  ⟨⟨h16.symm, List.nodup_nil, fun j x h => by simp at h, tabI.nil.cg hz⟩, hA⟩
theorem wdF_rg {Su : Int → Int → Int} {sl : Int} : ∀ t : Nat, (∀ u : Nat, u + 1 < t → (evo Su sl z3 (u + 1)).1.length ≤ 400) → 0 ≤ wdF Su sl t ∧ wdF Su sl t ≤ 400
  | 0, _ => ⟨Int.le_refl 0, show (0 : Int) ≤ 400 by decide⟩
  | t + 1, h => by
    have ih := wdF_rg (Su := Su) (sl := sl) t (fun u hu => h u (by omega))
    have hl : (evo Su sl z3 t).1.length ≤ 400 := by
      cases t with
      | zero => exact show (1 : Nat) ≤ 400 by decide
      | succ t => exact h t (by omega)
    unfold wdF
    split <;> omega
