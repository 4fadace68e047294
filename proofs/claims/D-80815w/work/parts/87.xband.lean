/-! a band more, no bands: the labels -/
theorem va_upid {α : Type} (f : Nat → α) (k : Nat) : va_up f k (f k) = f := by
  funext j
  rcases Decidable.em (j = k) with q | q
  · rw [q, va_up_self]
  · rw [va_up_ne _ _ q]
section XBA
variable {N : Nat → Nat} {x : Nat} {S S' : LbS} {Z Z' : Nat → Int → Int} {F : Nat → Int} {V : Nat → Int → Int}
theorem xRel.addB (h : xRel N x S Z F V) (hI : SI F V) (h31 : F 31 < 27) {S1 : LbS} {Z1 : Nat → Int → Int} {e : Nat} (he0 : e = 25 ∨ e = 104) {v : Int} (hs : ∀ k, k < 97 → k ≠ 14 → k ≠ 25 → sk S Z S1 Z1 k) (h14 : zB S1 14 = zB S 14 ∧ zK S1 14 = zK S 14 ∧ zN S1 14 = zN S 14) (hz : Z1 14 2 = F 31 + 1)
    (he : zA S1 14 1 = some (zB S1 e) ∧ zK S1 e = 10 ∧ (zN S1 e = 10 ∨ zN S1 e = 15 ∨ zN S1 e = 22 ∨ zN S1 e = 33) ∧ F 31 + 1 ≤ zN S1 e) (ho : ∀ k : Int, 0 ≤ k → k < F 31 → zA S1 e k = zA S 25 k) {b : Nat} (hn : zA S1 e (F 31) = some b) (hb : b = if v ≤ 127 then N (6 + (128 + v).toNat) else zB S1 102) (hr : 127 < v → zK S1 102 = 28 ∧ Z1 102 0 = v) :
    xRel N x (uP (uP S1 (sw 102 (70 + (F 31).toNat))) (sw 25 e)) (fun k => Z1 (sw 102 (70 + (F 31).toNat) (sw 25 e k))) (va_up F 31 (F 31 + 1)) (va_up V 19 (uI (V 19) (F 31) v)) := by
  have hnn := hI.nums
  have h310 : 0 ≤ F 31 := by
    have := hI.1
    omega
  obtain ⟨S2, e2⟩ : ∃ S2, uP (uP S1 (sw 102 (70 + (F 31).toNat))) (sw 25 e) = S2 := ⟨_, rfl⟩
  obtain ⟨Z2, e3⟩ : ∃ Z2 : Nat → Int → Int, (fun k => Z1 (sw 102 (70 + (F 31).toNat) (sw 25 e k))) = Z2 := ⟨_, rfl⟩
  have at_ : ∀ k j, sw 102 (70 + (F 31).toNat) (sw 25 e k) = j → zB S2 k = zB S1 j ∧ zK S2 k = zK S1 j ∧ zN S2 k = zN S1 j ∧ zA S2 k = zA S1 j ∧ Z2 k = Z1 j := fun k j q => by
    rw [← e2, ← e3, ← q]
    exact ⟨rfl, rfl, rfl, rfl, rfl⟩
  have same : ∀ k, k < 97 → k ≠ 25 → k ≠ 70 + (F 31).toNat → sw 102 (70 + (F 31).toNat) (sw 25 e k) = k := fun k q1 q2 q3 => by rw [sw_n (a := 25) q2 (by omega), sw_n (by omega) q3]
  have hs2 : ∀ k, k < 97 → k ≠ 14 → k ≠ 25 → k ≠ 70 + (F 31).toNat → sk S Z S2 Z2 k := fun k q1 q2 q3 q4 => by
    obtain ⟨b1, b2, b3, b4, b5⟩ := at_ k k (same k q1 q3 q4)
    obtain ⟨d1, d2, d3, d4, d5⟩ := hs k q1 q2 q3
    exact ⟨b1.trans d1, b2.trans d2, b3.trans d3, b4.trans d4, b5.trans d5⟩
  have t14 := at_ 14 14 (same 14 (by omega) (by omega) (by omega))
  have tE := at_ 25 e (by rw [sw_a]; rcases he0 with rfl | rfl <;> exact sw_n (by omega) (by omega))
  have tX := at_ (70 + (F 31).toNat) 102 (by rw [sw_n (a := 25) (by omega) (by omega), sw_b])
  rw [e2, e3]
  refine ⟨h.o.kp2 (fun k q => ?_) (fun k q => ?_) (fun k q => ?_) (fun k q q1 q2 q3 => (hs2 k (by omega) (by omega) (by omega) (by omega)).2.2.2.1) ?_, h.tb.kp fun k _ q => (hs2 k (by omega) (by omega) (by omega) (by omega)).2.2.2.2, (show xFi _ _ F V from h.fi.kp (fun k q => hs2 k (by omega) (by omega) (by omega) (by omega)) hnn.1.2), (show xSi _ V from h.si.kp fun k q => (hs2 k (by omega) (by omega) (by omega) (by omega)).2.2.2.2), (show xPl _ V from h.pl.kp fun k q => (hs2 k (by omega) (by omega) (by omega) (by omega)).2.2.2.2), (show xFg N _ _ F V from h.fg.kp (fun k q => hs2 k (by omega) (by omega) (by omega) (by omega)) (by omega)), ⟨?_, Or.inr ?_, fun k q1 q2 => ?_⟩, (show xSh _ _ V from h.sh.kp fun k q => hs2 k (by omega) (by omega) (by omega) (by omega))⟩
  · by_cases z : k = 14
    · rw [z]; exact t14.1.trans h14.1
    · exact (hs2 k (by omega) z (by omega) (by omega)).1
  · by_cases z : k = 14
    · rw [z]; exact t14.2.1.trans h14.2.1
    · exact (hs2 k (by omega) z (by omega) (by omega)).2.1
  · by_cases z : k = 14
    · rw [z]; exact t14.2.2.1.trans h14.2.2
    · exact (hs2 k (by omega) z (by omega) (by omega)).2.2.1
  · have e0 : Z2 0 = Z 0 := (hs2 0 (by omega) (by omega) (by omega) (by omega)).2.2.2.2
    rw [e0]
    exact h.n
  · show Z2 14 2 = F 31 + 1
    rw [t14.2.2.2.2]; exact hz
  · show zA S2 14 1 = some (zB S2 25) ∧ zK S2 25 = 10 ∧ (zN S2 25 = 10 ∨ zN S2 25 = 15 ∨ zN S2 25 = 22 ∨ zN S2 25 = 33) ∧ F 31 + 1 ≤ zN S2 25
    rw [t14.2.2.2.1, tE.1, tE.2.1, tE.2.2.1]
    exact he
  · have q2 : k < F 31 + 1 := q2
    show zA S2 25 k = some (if uI (V 19) (F 31) v k ≤ 127 then N (6 + (128 + uI (V 19) (F 31) v k).toNat) else zB S2 (70 + k.toNat)) ∧ (127 < uI (V 19) (F 31) v k → zK S2 (70 + k.toNat) = 28 ∧ Z2 (70 + k.toNat) 0 = uI (V 19) (F 31) v k)
    rw [tE.2.2.2.1]
    by_cases z : k = F 31
    · rw [z, uI_s, tX.1, tX.2.1, tX.2.2.2.2, hn, hb]
      exact ⟨rfl, hr⟩
    · obtain ⟨g1, g2⟩ := h.bd.2.2 k q1 (by omega)
      have e1 := hs2 (70 + k.toNat) (by omega) (by omega) (by omega) (by omega)
      rw [uI_n _ _ z, ho k q1 (by omega), e1.1, e1.2.1, e1.2.2.2.2]
      exact ⟨g1, g2⟩
theorem xRel.rstB (h : xRel N x S Z F V) (hI : SI F V) {S1 : LbS} {Z1 : Nat → Int → Int} (hs : ∀ k, k < 97 → k ≠ 14 → k ≠ 25 → sk S Z S1 Z1 k) (h14 : zB S1 14 = zB S 14 ∧ zK S1 14 = zK S 14 ∧ zN S1 14 = zN S 14) (hz : Z1 14 2 = 0)
    (he : zA S1 14 1 = some (N 4) ∨ (zA S1 14 1 = some (zB S1 25) ∧ zK S1 25 = 10 ∧ (zN S1 25 = 10 ∨ zN S1 25 = 15 ∨ zN S1 25 = 22 ∨ zN S1 25 = 33))) : xRel N x S1 Z1 (va_up F 31 0) V := by
  have hnn := hI.nums
  refine ⟨h.o.kp2 (fun k q => ?_) (fun k q => ?_) (fun k q => ?_) (fun k q q1 q2 q3 => (hs k (by omega) (by omega) (by omega)).2.2.2.1) ?_, h.tb.kp fun k _ q => (hs k (by omega) (by omega) (by omega)).2.2.2.2, (show xFi _ _ F V from h.fi.kp (fun k q => hs k (by omega) (by omega) (by omega)) hnn.1.2), (h.si.kp fun k q => (hs k (by omega) (by omega) (by omega)).2.2.2.2), (h.pl.kp fun k q => (hs k (by omega) (by omega) (by omega)).2.2.2.2), (show xFg N _ _ F V from h.fg.kp (fun k q => hs k (by omega) (by omega) (by omega)) (by omega)), ⟨hz, ?_, fun k q1 q2 => ?_⟩, (h.sh.kp fun k q => hs k (by omega) (by omega) (by omega))⟩
  · by_cases z : k = 14
    · rw [z]; exact h14.1
    · exact (hs k (by omega) z (by omega)).1
  · by_cases z : k = 14
    · rw [z]; exact h14.2.1
    · exact (hs k (by omega) z (by omega)).2.1
  · by_cases z : k = 14
    · rw [z]; exact h14.2.2
    · exact (hs k (by omega) z (by omega)).2.2.1
  · have e0 := (hs 0 (by omega) (by omega) (by omega)).2.2.2.2
    rw [e0]
    exact h.n
  · rcases he with q | q
    · exact Or.inl ⟨rfl, q⟩
    · exact Or.inr ⟨q.1, q.2.1, q.2.2, by show (0 : Int) ≤ _; omega⟩
  · have q2 : k < 0 := q2
    omega
end XBA
theorem iof_u {N : Nat → Nat} {S S' : LbS} {Z Z' : Nat → Int → Int} {n n' : Nat} {v : Int} {r : Option Nat} (h : ((v ≤ 127 ∧ S' = S ∧ Z' = Z ∧ n' = n ∧ r = some (N (6 + (128 + v).toNat))) ∨ (127 < v ∧ S' = uN S 102 n 28 0 ∧ Z' = va_up (va_up Z 102 (fun _ => 0)) 102 (uI (fun _ => 0) 0 v) ∧ n' = n + 1 ∧ r = some n))) :
    ∃ b : Nat, r = some b ∧ (b = if v ≤ 127 then N (6 + (128 + v).toNat) else zB S' 102) ∧ sm S S' [102] ∧ ch Z Z' [102] ∧ (127 < v → zK S' 102 = 28 ∧ Z' 102 0 = v) := by
  rcases h with ⟨h1, h2, h3, -, h5⟩ | ⟨h1, h2, h3, -, h5⟩
  · exact ⟨_, h5, (if_pos h1).symm, by rw [h2]; exact sm.rf, by rw [h3]; exact ch.rf, fun q => by omega⟩
  · exact ⟨_, h5, by rw [if_neg (by omega), h2]; rfl, by rw [h2]; exact sm.rf.uN 102 _ _ _ (by decide), by rw [h3]; exact (ch.rf.up 102 _ (by decide)).up 102 _ (by decide), fun _ => by rw [h2, h3]; exact ⟨rfl, rfl⟩⟩
section HVI
variable {p : Program} {s : State} {m : MethodId} {args : Array Value} {c : Code} {cc : ByteArray} {H : Heap} {locs : List Loc} {D : va_G} {T N : Nat → Nat} {A : Nat → Prop} {g : GH} {n nL : Nat} {own : String} {S S' : LbS} {Z' : Nat → Int → Int}
theorem hv_int {ks : List Nat} (hs : sm S S' ks) (hk : 102 ∉ ks) {v : Int} (hv : 0 ≤ v) (h1 : 127 < v → zK S 102 = 28) {b : Nat} (hb : b = if v ≤ 127 then N (6 + (128 + v).toNat) else zB S 102) (hC : Ct D T N A p s m args c cc own nL) (hX : Wd D A s g n H locs) (hL : lR T g S' Z') : hasC "java/lang/Integer" s H b := by
  rw [hb]
  split
  · exact hasC_int hC hX (by omega)
  · obtain ⟨a1, a2, a3, a4⟩ := hs 102 hk
    rw [← a1]
    exact hasC_ob hC hX (hL.ob 102 (ci := 8) (a2.trans (h1 (by omega)))) (r := ("java/lang/Integer", TJ9, 1)) rfl
theorem hel_int {ks : List Nat} (hs : sm S S' ks) (hk : ∀ k : Nat, 70 ≤ k → k < 97 → k ∉ ks) {x : Nat} {Z : Nat → Int → Int} {F : Nat → Int} {V : Nat → Int → Int} (hx : xRel N x S Z F V) (hV : ∀ k : Int, 0 ≤ k → k < F 31 → 0 ≤ V 19 k) (h27 : F 31 ≤ 27) (hC : Ct D T N A p s m args c cc own nL) (hX : Wd D A s g n H locs) (hL : lR T g S' Z') {i : Int} (h0 : 0 ≤ i) (h1 : i < F 31) {y : Nat} (hy : zA S 25 i = some y) : hasC "java/lang/Integer" s H y := by
  obtain ⟨g1, g2⟩ := hx.bd.2.2 i h0 h1
  have hV := hV i h0 h1
  rw [g1] at hy
  cases hy
  split
  · exact hasC_int hC hX (by omega)
  · obtain ⟨a1, a2, a3, a4⟩ := hs (70 + i.toNat) (hk _ (by omega) (by omega))
    rw [← a1]
    exact hasC_ob hC hX (hL.ob (70 + i.toNat) (ci := 8) (a2.trans (g2 (by omega)).1)) (r := ("java/lang/Integer", TJ9, 1)) rfl
end HVI
/-! the steps of wish -/
theorem oddW_u {F : Nat → Int} {V : Nat → Int → Int} {u : Int} {w wh : Int → Int} {bo st : Int} : oddW (va_up F 31 u) (va_up V 19 w) wh bo st = oddW F V wh bo st := by
  unfold oddW suS slS
  rfl
theorem wStep_cg {F : Nat → Int} {V : Nat → Int → Int} {u lo hi a b : Int} {w : Int → Int} {n : (Int → Int) × Int} : wStep (va_up F 31 u) (va_up V 19 w) lo hi a b n = wStep F V lo hi a b n := by
  have e : whP (va_up V 19 w) a b = whP V a b := rfl
  unfold wStep
  rw [e, oddW_u]
  rfl
theorem wStep_b {F : Nat → Int} {V : Nat → Int → Int} {lo hi a b b' : Int} {n : (Int → Int) × Int} (h : b < a) (h' : b' < a) : wStep F V lo hi a b n = wStep F V lo hi a b' n := by
  have e : whP V a b = whP V a b' := by
    funext j
    unfold whP
    rw [if_pos h, if_pos h']
  unfold wStep
  rw [e, if_pos h, if_pos h']
theorem rwP {F : Nat → Int} {V : Nat → Int → Int} (h : SI F V) {a b : Int} (ha : 0 ≤ a ∧ a < F 0) (hb : b = -1 ∨ (a ≤ b ∧ b < F 0)) : rwOk F (whP V a b) := by
  refine ⟨h.2.2.1.1, ?_⟩
  show rowA a (if b < a then -1 else b) (-1) (F 0)
  unfold rowA
  split <;> omega
def tP (N : Nat → Nat) (x : Nat) (S : LbS) (Z : Nat → Int → Int) (F : Nat → Int) (V : Nat → Int → Int) (lo hi a b : Int) (S' : LbS) (Z' : Nat → Int → Int) : Prop := (∀ k, 222 ≤ k → sk S Z S' Z' k) ∧ xRel N x S' Z' (va_up F 31 (wStep F V lo hi a b (V 19, F 31)).2) (va_up V 19 (wStep F V lo hi a b (V 19, F 31)).1)
theorem tP.same {N : Nat → Nat} {x : Nat} {S S' : LbS} {Z Z' : Nat → Int → Int} {F : Nat → Int} {V : Nat → Int → Int} {lo hi a b : Int} (hs : ∀ k, 222 ≤ k → sk S Z S' Z' k) (hx : xRel N x S' Z' F V) (h : ¬ (lo ≤ oddW F V (whP V a b) 0 (F 5) ∧ oddW F V (whP V a b) 0 (F 5) ≤ hi)) : tP N x S Z F V lo hi a b S' Z' := by
  unfold tP wStep
  rw [if_neg h]
  exact ⟨hs, by rw [va_upid, va_upid]; exact hx⟩
theorem tP.more {N : Nat → Nat} {x : Nat} {S S' : LbS} {Z Z' : Nat → Int → Int} {F : Nat → Int} {V : Nat → Int → Int} {lo hi a b v : Int} (hs : ∀ k, 222 ≤ k → sk S Z S' Z' k) (hx : xRel N x S' Z' (va_up F 31 (F 31 + 1)) (va_up V 19 (uI (V 19) (F 31) v))) (hv : v = if b < a then 256 + 16 * a else 16 * a + b) (h : lo ≤ oddW F V (whP V a b) 0 (F 5) ∧ oddW F V (whP V a b) 0 (F 5) ≤ hi) : tP N x S Z F V lo hi a b S' Z' := by
  unfold tP wStep
  rw [if_pos h, ← hv]
  exact ⟨hs, hx⟩
