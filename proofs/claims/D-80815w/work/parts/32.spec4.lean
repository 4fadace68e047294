/-! A FIGHT PLAYED by rolls that lie on a sheet -/
/-- error; life and who is up; how many rolls; rounds -/
abbrev PS : Type := Int × ((Int → Int) × (Int → Int)) × Int × Int
def plRd (Su : Int → Int → Int) (t : Int) (U : Int → Int) : Int := if winF U < 2 then t / Su 6 2 + 1 else Su 6 3
def plStep (Su : Int → Int → Int) (sz : Int) (it : Int → Int) (t : Int) (x : PS) : PS :=
  if x.1 ≠ 0 ∨ winF x.2.1.2 ≠ 2 then x
  else if x.2.1.2 (Su 5 (t % Su 6 2)) = 0 ∨ (t / Su 6 2 = 0 ∧ Su 6 1 = Su 5 (t % Su 6 2) / 3) then x
  else if x.2.1.1 (Su 5 (t % Su 6 2)) ≤ Su 4 (Su 5 (t % Su 6 2)) then (0, (x.2.1.1, uI x.2.1.2 (Su 5 (t % Su 6 2)) 0), x.2.2.1, plRd Su t (uI x.2.1.2 (Su 5 (t % Su 6 2)) 0))
  else if x.2.2.1 = sz then (1, x.2.1, x.2.2.1, x.2.2.2)
  else if 1 ≤ it x.2.2.1 ∧ it x.2.2.1 ≤ Su 2 (Su 5 (t % Su 6 2)) then (0, hitP (Su 0 (Su 5 (t % Su 6 2))) (Su 3 (Su 5 (t % Su 6 2))) (Su 6 0) (Su 1) x.2.1.1 x.2.1.2 (Su 5 (t % Su 6 2)), x.2.2.1 + 1, plRd Su t (hitP (Su 0 (Su 5 (t % Su 6 2))) (Su 3 (Su 5 (t % Su 6 2))) (Su 6 0) (Su 1) x.2.1.1 x.2.1.2 (Su 5 (t % Su 6 2))).2)
  else (0, x.2.1, x.2.2.1 + 1, plRd Su t x.2.1.2)
def plN (Su : Int → Int → Int) (sz : Int) (it : Int → Int) : Nat → PS
  | 0 => (0, (Su 1, U0 Su), 0, if winF (U0 Su) < 2 then 0 else Su 6 3)
  | t + 1 => plStep Su sz it t (plN Su sz it t)
theorem plStep_stop {Su : Int → Int → Int} {sz : Int} {it : Int → Int} {t : Int} {x : PS} (h : x.1 ≠ 0 ∨ winF x.2.1.2 ≠ 2) : plStep Su sz it t x = x := if_pos h
theorem plN_stop {Su : Int → Int → Int} {sz : Int} {it : Int → Int} {t : Nat} (h : (plN Su sz it t).1 ≠ 0 ∨ winF (plN Su sz it t).2.1.2 ≠ 2) : ∀ k : Nat, plN Su sz it (t + k) = plN Su sz it t
  | 0 => rfl
  | k + 1 => by
    show plStep Su sz it _ (plN Su sz it (t + k)) = _
    rw [plN_stop h k]
    exact plStep_stop h
/-- in order -/
def okPl (Su : Int → Int → Int) (sz t : Int) (x : PS) : Prop := okS x.2.1.1 x.2.1.2 ∧ (∀ k : Int, 0 ≤ k → k < 6 → Su 1 k = 0 → x.2.1.1 k = 0 ∧ x.2.1.2 k = 0) ∧ (0 ≤ x.2.2.1 ∧ x.2.2.1 ≤ t ∧ (x.2.2.1 ≤ sz)) ∧ (0 ≤ x.2.2.2 ∧ x.2.2.2 ≤ Su 6 3)
theorem plN_ok {Su : Int → Int → Int} (hS : okSu Su) {sz : Int} (hz : 0 ≤ sz) {it : Int → Int} (hm : winF (U0 Su) = 2 → 0 < Su 6 2) (hr : 0 ≤ Su 6 3) : ∀ t : Nat, (t : Int) ≤ Su 6 3 * Su 6 2 → okPl Su sz t (plN Su sz it t)
  | 0, _ => by
    refine ⟨fun k a b => ⟨(hS.1 k a b).2.1, by show U0 Su k = 0 ∨ U0 Su k = 1; unfold U0; split <;> omega⟩, fun k a b c => ⟨c, if_pos c⟩, ⟨Int.le_refl 0, Int.le_refl 0, hz⟩, ?_⟩
    show 0 ≤ (if winF (U0 Su) < 2 then 0 else Su 6 3) ∧ (if winF (U0 Su) < 2 then 0 else Su 6 3) ≤ Su 6 3
    split <;> omega
  | t + 1, ht => by
    have ih := plN_ok hS hz (it := it) hm hr t (by omega)
    have hm2 := hS.2.1
    have hmp : 0 < Su 6 2 := by
      rcases Int.lt_or_le 0 (Su 6 2) with q | q
      · exact q
      · exfalso
        rw [show Su 6 2 = 0 by omega] at ht
        omega
    have hk := hS.turn (t := t) (by omega) hmp
    have hdv : (t : Int) / Su 6 2 < Su 6 3 := Int.ediv_lt_of_lt_mul hmp (by omega)
    have hd0 := Int.ediv_nonneg (a := (t : Int)) (b := Su 6 2) (by omega) (by omega)
    have hrd : ∀ U : Int → Int, 0 ≤ plRd Su t U ∧ plRd Su t U ≤ Su 6 3 := fun U => by unfold plRd; split <;> omega
    show okPl Su sz _ (plStep Su sz it t (plN Su sz it t))
    generalize plN Su sz it t = x at ih ⊢
    obtain ⟨i1, i2, i3, i4⟩ := ih
    generalize Su 5 (t % Su 6 2) = k at hk
    have same : okPl Su sz ((t + 1 : Nat) : Int) x := ⟨i1, i2, ⟨i3.1, by omega, i3.2.2⟩, i4⟩
    unfold plStep
    split
    · exact same
    · rename_i q1
      split
      · exact same
      · rename_i q2
        split
        · refine ⟨fun j a b => ⟨(i1 j a b).1, ?_⟩, fun j a b c => ⟨(i2 j a b c).1, ?_⟩, ⟨i3.1, by dsimp only; omega, i3.2.2⟩, hrd _⟩
          · show uI _ _ 0 j = 0 ∨ uI _ _ 0 j = 1
            unfold uI
            split
            · exact Or.inl rfl
            · exact (i1 j a b).2
          · show uI _ _ 0 j = 0
            unfold uI
            split
            · rfl
            · exact (i2 j a b c).2
        · split
          · exact same
          · have hk' := hS.turn (t := t) (by omega) hmp
            split
            · refine ⟨okS.hit i1 (hS.1 _ hk'.1 hk'.2).2.2.2.1.1 (fun j a b _ => (hS.1 j a b).2.1) hk' (fun z => q2 (Or.inl z)), hit_absent i2 (by omega) hk', ⟨by dsimp only; omega, by dsimp only; omega, by dsimp only; omega⟩, hrd _⟩
            · exact ⟨i1, i2, ⟨by dsimp only; omega, by dsimp only; omega, by dsimp only; omega⟩, hrd _⟩
/-- n numbers of g laid over f -/
def cpy (f g : Int → Int) : Nat → Int → Int
  | 0 => f
  | n + 1 => uI (cpy f g n) n (g n)
theorem cpy_cg {f g g' : Int → Int} : ∀ n : Nat, (∀ k : Int, 0 ≤ k → k < n → g' k = g k) → cpy f g' n = cpy f g n
  | 0, _ => rfl
  | n + 1, h => by
    show uI (cpy f g' n) n (g' n) = uI (cpy f g n) n (g n)
    rw [cpy_cg n (fun k a b => h k a (by omega)), h n (by omega) (by omega)]
theorem cpy_at {f g : Int → Int} : ∀ (n : Nat) (k : Int), 0 ≤ k → cpy f g n k = if k < n then g k else f k
  | 0, k, hk => by
    rw [if_neg (by omega)]
    rfl
  | n + 1, k, hk => by
    show uI (cpy f g n) n (g n) k = _
    unfold uI
    split
    · rename_i q
      rw [q, if_pos (by omega)]
    · rw [cpy_at n k hk]
      split
      · rw [if_pos (by omega)]
      · rw [if_neg (by omega)]
def plE (F : Nat → Int) (V : Nat → Int → Int) (i : Int) : PS := plN (suN F V) (V 24 i) (fun j => V 25 (60 * i + j)) (slS F (suN F V)).toNat
def op_play (F : Nat → Int) (V : Nat → Int → Int) (i : Int) : OT :=
  if 0 ≤ i ∧ i ≤ 3 then (if V 23 i < 0 then (-11, fin F 1, V) else if (plE F V i).1 ≠ 0 then (-12, fin F 2, V) else
    (winF (plE F V i).2.1.2, F, va_up (va_up (va_up V 20 (uI (uI (uI (V 20) 0 (winF (plE F V i).2.1.2)) 1 (plE F V i).2.2.1) 2 (plE F V i).2.2.2)) 21 (cpy (V 21) (V 2) 6)) 22 (cpy (V 22) (plE F V i).2.1.1 6)))
  else (-2, F, V)
def plR2 (Su : Int → Int → Int) (d : Int) (U : Int → Int) : Int := if winF U < 2 then d + 1 else Su 6 3
def plIn (Su : Int → Int → Int) (sz : Int) (it : Int → Int) (k d : Int) (x : PS) : PS :=
  if x.2.1.2 k = 0 ∨ (d = 0 ∧ Su 6 1 = k / 3) then x
  else if x.2.1.1 k ≤ Su 4 k then (0, (x.2.1.1, uI x.2.1.2 k 0), x.2.2.1, plR2 Su d (uI x.2.1.2 k 0))
  else if x.2.2.1 = sz then (1, x.2.1, x.2.2.1, x.2.2.2)
  else if 1 ≤ it x.2.2.1 ∧ it x.2.2.1 ≤ Su 2 k then (0, hitP (Su 0 k) (Su 3 k) (Su 6 0) (Su 1) x.2.1.1 x.2.1.2 k, x.2.2.1 + 1, plR2 Su d (hitP (Su 0 k) (Su 3 k) (Su 6 0) (Su 1) x.2.1.1 x.2.1.2 k).2)
  else (0, x.2.1, x.2.2.1 + 1, plR2 Su d x.2.1.2)
theorem plStep_in {Su : Int → Int → Int} {sz : Int} {it : Int → Int} {t k d : Int} {x : PS} (h0 : x.1 = 0) (hw : winF x.2.1.2 = 2) (hk : k = Su 5 (t % Su 6 2)) (hd : d = t / Su 6 2) : plStep Su sz it t x = plIn Su sz it k d x := by
  subst hk hd
  unfold plStep
  rw [if_neg (by omega)]
  rfl
/-- the next slot of a fight played -/
theorem plN_s {Su : Int → Int → Int} {sz : Int} {it : Int → Int} {t k d : Int} (ht : 0 ≤ t) (h0 : (plN Su sz it t.toNat).1 = 0) (hw : winF (plN Su sz it t.toNat).2.1.2 = 2) (hk : k = Su 5 (t % Su 6 2)) (hd : d = t / Su 6 2) : plN Su sz it (t + 1).toNat = plIn Su sz it k d (plN Su sz it t.toNat) := by
  rw [show (t + 1).toNat = t.toNat + 1 by omega]
  show plStep Su sz it ((t.toNat : Nat) : Int) (plN Su sz it t.toNat) = _
  rw [Int.toNat_of_nonneg ht]
  exact plStep_in h0 hw hk hd
/-- .. and the last one, when nothing more comes -/
theorem plN_end {Su : Int → Int → Int} {sz : Int} {it : Int → Int} {t sl : Int} (ht : 0 ≤ t ∧ t ≤ sl) (h : t = sl ∨ (plN Su sz it t.toNat).1 ≠ 0 ∨ winF (plN Su sz it t.toNat).2.1.2 ≠ 2) : plN Su sz it sl.toNat = plN Su sz it t.toNat := by
  rcases h with h | h
  · rw [h]
  · rw [show sl.toNat = t.toNat + (sl - t).toNat by omega]
    exact plN_stop h _
theorem ch3 {V V' : Nat → Int → Int} {a b c : Int → Int} (h : ch V V' [3, 4, 5, 6, 7, 20, 21, 22]) (ha : V' 20 = a) (hb : V' 21 = b) (hc : V' 22 = c) : ch (va_up (va_up (va_up V 20 a) 21 b) 22 c) V' scV := fun j hj => by
  rcases Decidable.em (j = 22) with q | q
  · subst q
    exact hc
  rw [va_up_ne _ _ q]
  rcases Decidable.em (j = 21) with q1 | q1
  · subst q1
    exact hb
  rw [va_up_ne _ _ q1]
  rcases Decidable.em (j = 20) with q2 | q2
  · subst q2
    exact ha
  rw [va_up_ne _ _ q2]
  exact h j (fun z => hj (by simp at z ⊢; omega))
/-- facts wrapped, so that arithmetic needn't split on them -/
def manyP (Su : Int → Int → Int) : Prop := winF (U0 Su) = 2 → 0 < Su 6 2
def rd0P (Su : Int → Int → Int) (rd : Int) : Prop := rd = if winF (U0 Su) < 2 then 0 else Su 6 3
theorem idx60 {sh ro z : Int} (h : 0 ≤ sh ∧ sh ≤ 3) (h1 : 0 ≤ ro ∧ ro ≤ z) (h2 : ¬ ro = z) (h3 : z ≤ 60) : 0 ≤ 60 * sh + ro ∧ 60 * sh + ro < 240 := by omega
