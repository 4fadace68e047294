/-! the model's table of states: open addressing -/
def hsM (c : Int) : Int := hm (lI (c * 2654435761) >>> ((iI 20).toInt64 &&& 63))
theorem hsM_rg (c : Int) : 0 ≤ hsM c ∧ hsM c < 2048 := hm_rg _
/-- place of the d-th probe -/
def prb (h : Int) (d : Int) : Int := (h + d) % 2048
theorem prb_rg (h d : Int) : 0 ≤ prb h d ∧ prb h d < 2048 := by unfold prb; omega
theorem prb_s (h d : Int) : (prb h d + 1) % 2048 = prb h (d + 1) := by unfold prb; omega
theorem prb_0 {h : Int} (hh : 0 ≤ h ∧ h < 2048) : prb h 0 = h := by unfold prb; omega
def tabI (t : Int → Int) (N : List (Int × Int)) : Prop :=
  (∀ k : Int, 0 ≤ k → k < 2048 → 0 ≤ t k ∧ t k ≤ N.length) ∧
  (∀ (j : Nat) (x : Int × Int), N[j]? = some x → ∃ d : Nat, d < 2048 ∧ t (prb (hsM x.1) d) = j + 1 ∧ ∀ e : Nat, e < d → t (prb (hsM x.1) e) ≠ 0) ∧
  cntZ t 2048 = N.length
theorem tabI.nil : tabI (fun _ => 0) [] := by
  refine ⟨fun k _ _ => ⟨Int.le_refl 0, Int.le_refl 0⟩, fun j x h => by simp at h, ?_⟩
  have : ∀ n : Nat, cntZ (fun _ => 0) n = 0 := fun n => by
    induction n with
    | zero => rfl
    | succ n ih => show cntZ (fun _ => 0) n + (if (0 : Int) = 0 then 0 else 1) = 0; rw [ih]; rfl
  exact this 2048
theorem tabI.cg {t u : Int → Int} {N : List (Int × Int)} (h : tabI t N) (e : ∀ k : Int, 0 ≤ k → k < 2048 → u k = t k) : tabI u N := by
  obtain ⟨h1, h2, h3⟩ := h
  refine ⟨fun k a b => by rw [e k a b]; exact h1 k a b, fun j x hx => ?_, ?_⟩
  · obtain ⟨d, a, b, c⟩ := h2 j x hx
    exact ⟨d, a, by rw [e _ (prb_rg _ _).1 (prb_rg _ _).2]; exact b, fun i hi => by rw [e _ (prb_rg _ _).1 (prb_rg _ _).2]; exact c i hi⟩
  · rw [cntZ_cg (t := t) 2048 (fun k a b => by rw [e k a (by omega)])]
    exact h3
/-- a probe that has met an empty place, all before it taken by others: the state is new -/
theorem tabI.absent {t : Int → Int} {N : List (Int × Int)} (h : tabI t N) {c : Int} {d : Nat} (h0 : t (prb (hsM c) d) = 0) (ho : ∀ e : Nat, e < d → t (prb (hsM c) e) ≠ 0 ∧ ∀ x : Int × Int, N[(t (prb (hsM c) e) - 1).toNat]? = some x → x.1 ≠ c) : ∀ x ∈ N, x.1 ≠ c := by
  intro x hx hc
  obtain ⟨j, hj⟩ := List.getElem?_of_mem hx
  obtain ⟨d', h1, h2, h3⟩ := h.2.1 j x hj
  rw [hc] at h2 h3
  rcases Nat.lt_trichotomy d d' with q | q | q
  · exact h3 d q h0
  · subst q
    omega
  · refine (ho d' q).2 x ?_ hc
    rw [h2, show ((j : Int) + 1 - 1).toNat = j by omega]
    exact hj
theorem tabI.new {t : Int → Int} {N : List (Int × Int)} (h : tabI t N) {c n : Int} {d : Nat} (hd : d < 2048) (h0 : t (prb (hsM c) d) = 0) (ho : ∀ e : Nat, e < d → t (prb (hsM c) e) ≠ 0) : tabI (uI t (prb (hsM c) d) (N.length + 1)) (N ++ [(c, n)]) := by
  have rg := prb_rg (hsM c) d
  refine ⟨fun k a b => ?_, fun j x hx => ?_, ?_⟩
  · rw [List.length_append, List.length_singleton]
    unfold uI
    split
    · omega
    · have := h.1 k a b
      omega
  · rcases Nat.lt_or_ge j N.length with q | q
    · rw [List.getElem?_append_left q] at hx
      obtain ⟨d', h1, h2, h3⟩ := h.2.1 j x hx
      refine ⟨d', h1, ?_, fun e he => ?_⟩
      · rw [uI_n _ _ (fun z => by rw [z] at h2; omega)]
        exact h2
      · unfold uI
        split
        · omega
        · exact h3 e he
    · rw [List.getElem?_append_right q] at hx
      have hl := (List.getElem?_eq_some_iff.mp hx).1
      simp at hl
      have : j = N.length := by omega
      subst this
      simp at hx
      subst hx
      refine ⟨d, hd, ?_, fun e he => ?_⟩
      · rw [uI_s]
      · unfold uI
        split
        · omega
        · exact ho e he
  · rw [cntZ_up h0 (by omega) 2048 rg.1 rg.2, h.2.2, List.length_append, List.length_singleton]
/-- while places are free, a probe meets one before it has been round -/
theorem tabI.more {t : Int → Int} {N : List (Int × Int)} (h : tabI t N) (hN : N.length < 2048) {c : Int} {d : Nat} (hd : d < 2048) (ho : ∀ e : Nat, e < d + 1 → t (prb (hsM c) e) ≠ 0) : d + 1 < 2048 := by
  apply Nat.lt_of_not_le
  intro hle
  obtain ⟨e, he, hz⟩ := tab_free (h := hsM c) (t := t) (by rw [h.2.2]; exact hN)
  exact ho e (by omega) hz
/-- the row of states that are come to: in the arrays, and in the table -/
def NLI (b : Int) (V : Nat → Int → Int) (N : List (Int × Int)) : Prop :=
  (N.length : Int) = b ∧ (N.map Prod.fst).Nodup ∧ (∀ (j : Nat) (x : Int × Int), N[j]? = some x → (V 10 j = x.1 ∧ V 11 j = x.2) ∧ 0 ≤ x.1 ∧ x.1 < 68719476736) ∧ tabI (V 12) N
theorem NLI.cg {b : Int} {V V' : Nat → Int → Int} {N : List (Int × Int)} (h : NLI b V N) (h10 : V' 10 = V 10) (h11 : V' 11 = V 11) (h12 : V' 12 = V 12) : NLI b V' N := by
  unfold NLI
  rw [h10, h11, h12]
  exact h
theorem NLI.new {b : Int} {V V' : Nat → Int → Int} {N : List (Int × Int)} (h : NLI b V N) {c n : Int} {d : Nat} (hc : 0 ≤ c ∧ c < 68719476736) (hd : d < 2048) (h0 : V 12 (prb (hsM c) d) = 0) (ho : ∀ e : Nat, e < d → V 12 (prb (hsM c) e) ≠ 0 ∧ ∀ x : Int × Int, N[(V 12 (prb (hsM c) e) - 1).toNat]? = some x → x.1 ≠ c)
    (h10 : V' 10 = uI (V 10) b c) (h11 : ∀ j : Int, V' 11 j = if j = b then n else V 11 j) (h12 : V' 12 = uI (V 12) (prb (hsM c) d) (b + 1)) : NLI (b + 1) V' (insN N c n) := by
  obtain ⟨h1, h2, h3, h4⟩ := h
  have ha := h4.absent h0 ho
  rw [insN_new ha]
  refine ⟨by rw [List.length_append, List.length_singleton]; omega, ?_, fun j x hx => ?_, ?_⟩
  · rw [← insN_new ha (n := n)]
    exact insN_nd h2
  · rcases Nat.lt_or_ge j N.length with q | q
    · rw [List.getElem?_append_left q] at hx
      rw [h10, uI_n _ _ (by omega), h11, if_neg (by omega)]
      exact h3 j x hx
    · rw [List.getElem?_append_right q] at hx
      have hl := (List.getElem?_eq_some_iff.mp hx).1
      simp at hl
      have : j = N.length := by omega
      subst this
      simp at hx
      subst hx
      rw [h10, h1, uI_s, h11, if_pos rfl]
      exact ⟨⟨rfl, rfl⟩, hc⟩
  · rw [h12, ← h1]
    exact h4.new hd h0 (fun e he => (ho e he).1)
theorem NLI.old {b : Int} {V V' : Nat → Int → Int} {N : List (Int × Int)} (h : NLI b V N) {c n j : Int} (hj : 0 ≤ j ∧ j < b) (hc : V 10 j = c) (h10 : V' 10 = V 10) (h11 : V' 11 = uI (V 11) j (V 11 j + n)) (h12 : V' 12 = V 12) : NLI b V' (insN N c n) := by
  obtain ⟨h1, h2, h3, h4⟩ := h
  have hx : ∃ x, N[j.toNat]? = some x := ⟨N[j.toNat]'(by omega), List.getElem?_eq_getElem (by omega)⟩
  obtain ⟨x, hx⟩ := hx
  have hv := h3 j.toNat x hx
  rw [Int.toNat_of_nonneg hj.1] at hv
  have hcx : x.1 = c := by rw [← hc]; exact hv.1.1.symm
  have e : insN N c n = N.set j.toNat (c, x.2 + n) := insN_old h2 (by rw [hx, ← hcx])
  rw [e]
  have hkey : (N.set j.toNat (c, x.2 + n)).map Prod.fst = N.map Prod.fst := by
    apply List.ext_getElem?
    intro i
    rw [List.getElem?_map, List.getElem?_map, List.getElem?_set]
    split
    · rename_i q
      subst q
      rw [if_pos (by omega), hx]
      simp [hcx]
    · rfl
  refine ⟨by rw [List.length_set]; exact h1, by rw [hkey]; exact h2, fun i y hy => ?_, ?_⟩
  · rw [List.getElem?_set] at hy
    rw [h10, h11]
    split at hy
    · rename_i q
      subst q
      rw [if_pos (by omega)] at hy
      cases hy
      rw [Int.toNat_of_nonneg hj.1, uI_s]
      exact ⟨⟨hc, by rw [hv.1.2]⟩, by rw [← hcx]; exact hv.2⟩
    · rename_i q
      rw [uI_n _ _ (by omega)]
      exact h3 i y hy
  · rw [h12]
    obtain ⟨g1, g2, g3⟩ := h4
    refine ⟨by rw [List.length_set]; exact g1, fun i y hy => ?_, by rw [List.length_set]; exact g3⟩
    rw [List.getElem?_set] at hy
    split at hy
    · rename_i q
      subst q
      rw [if_pos (by omega)] at hy
      cases hy
      have := g2 j.toNat x hx
      rw [hcx] at this
      exact this
    · exact g2 i y hy
section JT
variable {p : Program} {l : Launch} {e : Env} {R : Room} {s : State} {m : MethodId} {args : Array Value} {below : List Frame} {meth : Method} {c : Code} {H : Heap} {locs : List Loc} {cells slots : Nat} {Q : State → Prop}
variable {cc : ByteArray} {pc : Nat} {ls : Array Slot} {rest : List Value} {D : va_G} {T N : Nat → Nat} {A : Nat → Prop} {nL : Nat} {own : String}
theorem j_land2047m (hC : Ct D T N A p s m args c cc own nL) {x : Int64} (hdg : decode cc pc = .ok (.land, 1)) (k : W p l e R s m args below meth c H locs cells slots Q (F0 m (pc + 1) ls (.long (lI (hm x)) :: rest))) : W p l e R s m args below meth c H locs cells slots Q (F0 m pc ls (.long (lI 2047) :: .long x :: rest)) :=
  lv_land hC.x hC.b hdg (by rw [l_and2047m]; exact k)
end JT
