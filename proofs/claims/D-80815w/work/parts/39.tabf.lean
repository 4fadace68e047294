/-! FAIRFIGHT's TABLE: open addressing by ways that aren't nought; labels b (object: 3 many), b + 1 keys, b + 2 ways, b + 3 used -/
theorem i_and2047 {a : Int} (h : 0 ≤ a ∧ a ≤ 2147483647) : iI a &&& iI 2047 = iI (a % 2048) := by
  apply Int32.toBitVec_inj.mp
  apply BitVec.eq_of_toNat_eq
  have e1 : ∀ z : Int, 0 ≤ z → z ≤ 2147483647 → (iI z).toBitVec.toNat = z.toNat := fun z h1 h2 => by
    have := iI_toInt (z := z) (by omega) h2
    rw [← Int32.toInt_toBitVec, BitVec.toInt_eq_toNat_cond] at this
    split at this <;> omega
  rw [Int32.toBitVec_and, BitVec.toNat_and, e1 a h.1 h.2, e1 2047 (by decide) (by decide), e1 (a % 2048) (by omega) (by omega)]
  rw [show (2047 : Int).toNat = 2 ^ 11 - 1 from rfl, Nat.and_two_pow_sub_one_eq_mod]
  omega
section TFR
variable {p : Program} {l : Launch} {e : Env} {R : Room} {s : State} {m : MethodId} {args : Array Value} {below : List Frame} {meth : Method} {c : Code} {H : Heap} {locs : List Loc} {cells slots : Nat} {Q : State → Prop}
variable {cc : ByteArray} {pc : Nat} {ls : Array Slot} {rest : List Value} {D : va_G} {T N : Nat → Nat} {A : Nat → Prop} {nL : Nat} {own : String}
theorem j_iand2047 (hC : Ct D T N A p s m args c cc own nL) {a : Int} (hdg : decode cc pc = .ok (.iand, 1)) (h : 0 ≤ a ∧ a ≤ 2147483647) (k : W p l e R s m args below meth c H locs cells slots Q (F0 m (pc + 1) ls (.int (iI (a % 2048)) :: rest))) : W p l e R s m args below meth c H locs cells slots Q (F0 m pc ls (.int (iI 2047) :: .int (iI a) :: rest)) :=
  lv_iand hC.x hC.b hdg (by rw [i_and2047 h]; exact k)
end TFR
def hsF (c : Int) : Int := hm (lI c ^^^ ((lI c).toUInt64 >>> ((iI 17).toInt64.toUInt64 &&& Int64.toUInt64 63)).toInt64 ^^^ ((lI c).toUInt64 >>> ((iI 31).toInt64.toUInt64 &&& Int64.toUInt64 63)).toInt64)
theorem hsF_rg (c : Int) : 0 ≤ hsF c ∧ hsF c < 2048 := hm_rg _
def tabG (t : Int → Int) (N : List (Int × Int)) : Prop :=
  (∀ k : Int, 0 ≤ k → k < 2048 → 0 ≤ t k ∧ t k ≤ N.length) ∧
  (∀ (j : Nat) (x : Int × Int), N[j]? = some x → ∃ d : Nat, d < 2048 ∧ t (prb (hsF x.1) d) = j + 1 ∧ ∀ e : Nat, e < d → t (prb (hsF x.1) e) ≠ 0) ∧
  cntZ t 2048 = N.length
theorem tabG.nil : tabG (fun _ => 0) [] := by
  refine ⟨fun k _ _ => ⟨Int.le_refl 0, Int.le_refl 0⟩, fun j x h => by simp at h, ?_⟩
  have : ∀ n : Nat, cntZ (fun _ => 0) n = 0 := fun n => by
    induction n with
    | zero => rfl
    | succ n ih => show cntZ (fun _ => 0) n + (if (0 : Int) = 0 then 0 else 1) = 0; rw [ih]; rfl
  exact this 2048
theorem tabG.absent {t : Int → Int} {N : List (Int × Int)} (h : tabG t N) {c : Int} {d : Nat} (h0 : t (prb (hsF c) d) = 0) (ho : ∀ e : Nat, e < d → t (prb (hsF c) e) ≠ 0 ∧ ∀ x : Int × Int, N[(t (prb (hsF c) e) - 1).toNat]? = some x → x.1 ≠ c) : ∀ x ∈ N, x.1 ≠ c := by
  intro x hx hc
  obtain ⟨j, hj⟩ := List.getElem?_of_mem hx
  obtain ⟨d', h1, h2, h3⟩ := h.2.1 j x hj
  rw [hc] at h2 h3
  rcases Nat.lt_trichotomy d d' with q | q | q
  · exact h3 d q h0
  · subst q
    omega
  · refine (ho d' q).2 x ?_ hc
    rw [h2, show ((j : Int) + 1 - 1).toNat = j by omega]
    exact hj
theorem tabG.new {t : Int → Int} {N : List (Int × Int)} (h : tabG t N) {c n : Int} {d : Nat} (hd : d < 2048) (h0 : t (prb (hsF c) d) = 0) (ho : ∀ e : Nat, e < d → t (prb (hsF c) e) ≠ 0) : tabG (uI t (prb (hsF c) d) (N.length + 1)) (N ++ [(c, n)]) := by
  have rg := prb_rg (hsF c) d
  refine ⟨fun k a b => ?_, fun j x hx => ?_, ?_⟩
  · rw [List.length_append, List.length_singleton]
    unfold uI
    split
    · omega
    · have := h.1 k a b
      omega
  · rcases Nat.lt_or_ge j N.length with q | q
    · rw [List.getElem?_append_left q] at hx
      obtain ⟨d', h1, h2, h3⟩ := h.2.1 j x hx
      refine ⟨d', h1, ?_, fun e he => ?_⟩
      · rw [uI_n _ _ (fun z => by rw [z] at h2; omega)]
        exact h2
      · unfold uI
        split
        · omega
        · exact h3 e he
    · rw [List.getElem?_append_right q] at hx
      have hl := (List.getElem?_eq_some_iff.mp hx).1
      simp at hl
      have : j = N.length := by omega
      subst this
      simp at hx
      subst hx
      refine ⟨d, hd, ?_, fun e he => ?_⟩
      · rw [uI_s]
      · unfold uI
        split
        · omega
        · exact ho e he
  · rw [cntZ_up h0 (by omega) 2048 rg.1 rg.2, h.2.2, List.length_append, List.length_singleton]
theorem tabG.more {t : Int → Int} {N : List (Int × Int)} (h : tabG t N) (hN : N.length < 2048) {c : Int} {d : Nat} (hd : d < 2048) (ho : ∀ e : Nat, e < d + 1 → t (prb (hsF c) e) ≠ 0) : d + 1 < 2048 := by
  apply Nat.lt_of_not_le
  intro hle
  obtain ⟨e, he, hz⟩ := tab_free (h := hsF c) (t := t) (by rw [h.2.2]; exact hN)
  exact ho e (by omega) hz
/-- the table (keys K, ways W, places used U, how many m) holds the list N, in its order -/
def tbR (K W U : Int → Int) (m : Int) (N : List (Int × Int)) : Prop :=
  ((N.length : Int) = m ∧ N.length ≤ 401) ∧ (N.map Prod.fst).Nodup ∧ (∀ x ∈ N, (0 ≤ x.1 ∧ x.1 < 68719476736) ∧ 0 < x.2 ∧ x.2 ≤ 9223372036854775807) ∧
  ∃ t : Int → Int, tabG t N ∧ (∀ q : Int, 0 ≤ q → q < 2048 → (t q = 0 ↔ W q = 0)) ∧ (∀ (j : Nat) (x : Int × Int), N[j]? = some x → (0 ≤ U j ∧ U j < 2048) ∧ t (U j) = j + 1 ∧ K (U j) = x.1 ∧ W (U j) = x.2) ∧ (∀ q : Int, 0 ≤ q → q < 2048 → t q ≠ 0 → U (t q - 1) = q)
theorem tbR.nil {K W U : Int → Int} (h : ∀ q : Int, 0 ≤ q → q < 2048 → W q = 0) : tbR K W U 0 [] :=
  ⟨⟨rfl, by decide⟩, List.nodup_nil, fun x hx => absurd hx List.not_mem_nil, fun _ => 0, tabG.nil, fun q a b => ⟨fun _ => h q a b, fun _ => rfl⟩, fun j x hx => by simp at hx, fun q _ _ hq => absurd rfl hq⟩
theorem tbR.len {K W U : Int → Int} {m : Int} {N : List (Int × Int)} (h : tbR K W U m N) : 0 ≤ m ∧ m ≤ 401 ∧ (N.length : Int) = m := by
  have := h.1
  omega
/-- an entry -/
theorem tbR.at {K W U : Int → Int} {m : Int} {N : List (Int × Int)} (h : tbR K W U m N) {i : Int} (hi : 0 ≤ i ∧ i < m) : ∃ x, N[i.toNat]? = some x ∧ x ∈ N ∧ (0 ≤ U i ∧ U i < 2048) ∧ K (U i) = x.1 ∧ W (U i) = x.2 := by
  have hl := h.1
  obtain ⟨t, -, -, h3, -⟩ := h.2.2.2
  have hx : N[i.toNat]? = some (N[i.toNat]'(by omega)) := List.getElem?_eq_getElem (by omega)
  have := h3 _ _ hx
  rw [Int.toNat_of_nonneg hi.1] at this
  exact ⟨_, hx, List.mem_of_getElem? hx, this.1, this.2.2⟩
/-- where the ways aren't nought an entry lies -/
theorem tbR.of {K W U : Int → Int} {m : Int} {N : List (Int × Int)} (h : tbR K W U m N) {q : Int} (hq : 0 ≤ q ∧ q < 2048) (hw : W q ≠ 0) : ∃ j : Int, (0 ≤ j ∧ j < m) ∧ U j = q := by
  obtain ⟨t, h1, h2, -, h4⟩ := h.2.2.2
  have ht : t q ≠ 0 := fun z => hw ((h2 q hq.1 hq.2).mp z)
  have hr := h1.1 q hq.1 hq.2
  exact ⟨t q - 1, by have := h.1; omega, h4 q hq.1 hq.2 ht⟩
/-- probes so far: each place is another's -/
def prA (K W : Int → Int) (c : Int) (d : Nat) : Prop := ∀ e : Nat, e < d → W (prb (hsF c) e) ≠ 0 ∧ K (prb (hsF c) e) ≠ c
theorem tbR.more {K W U : Int → Int} {m : Int} {N : List (Int × Int)} (h : tbR K W U m N) {c : Int} {d : Nat} (hd : d < 2048) (ha : prA K W c (d + 1)) : d + 1 < 2048 := by
  obtain ⟨t, h1, h2, -, -⟩ := h.2.2.2
  refine h1.more (c := c) (by have := h.1; omega) hd (fun e he z => ?_)
  have rg := prb_rg (hsF c) e
  exact (ha e he).1 ((h2 _ rg.1 rg.2).mp z)
theorem tbR.new {K W U : Int → Int} {m : Int} {N : List (Int × Int)} (h : tbR K W U m N) {c n : Int} {d : Nat} (hc : 0 ≤ c ∧ c < 68719476736) (hn : 0 < n ∧ n ≤ 9223372036854775807) (hd : d < 2048) (ha : prA K W c d) (h0 : W (prb (hsF c) d) = 0) (hm : m ≤ 400) :
    tbR (uI K (prb (hsF c) d) c) (uI W (prb (hsF c) d) n) (uI U m (prb (hsF c) d)) (m + 1) (insN N c n) := by
  obtain ⟨⟨l1, l2⟩, nd, rg, t, h1, h2, h3, h4⟩ := h
  have pr := fun e : Nat => prb_rg (hsF c) e
  have hz : t (prb (hsF c) d) = 0 := (h2 _ (pr d).1 (pr d).2).mpr h0
  have hoc : ∀ e : Nat, e < d → t (prb (hsF c) e) ≠ 0 ∧ ∀ x : Int × Int, N[(t (prb (hsF c) e) - 1).toNat]? = some x → x.1 ≠ c := fun e he => by
    have h5 : t (prb (hsF c) e) ≠ 0 := fun z => (ha e he).1 ((h2 _ (pr e).1 (pr e).2).mp z)
    refine ⟨h5, fun x hx => ?_⟩
    have h6 := h1.1 _ (pr e).1 (pr e).2
    have h7 := h3 _ _ hx
    rw [Int.toNat_of_nonneg (by omega), h4 _ (pr e).1 (pr e).2 h5] at h7
    rw [← h7.2.2.1]
    exact (ha e he).2
  have hab := h1.absent hz hoc
  have hlen : ∀ j : Nat, j < N.length → (j : Int) ≠ m := fun j hj => by omega
  refine ⟨?_, insN_nd nd, ?_, uI t (prb (hsF c) d) (N.length + 1), ?_, fun q a b => ?_, fun j x hx => ?_, fun q a b hq => ?_⟩
  · rw [insN_new hab, List.length_append, List.length_singleton]
    omega
  · rw [insN_new hab]
    intro x hx
    rcases List.mem_append.mp hx with z | z
    · exact rg x z
    · have : x = (c, n) := by simpa using z
      rw [this]
      exact ⟨hc, hn⟩
  · rw [insN_new hab]
    exact h1.new hd hz (fun e he => (hoc e he).1)
  · unfold uI
    split
    · omega
    · exact h2 q a b
  · rw [insN_new hab] at hx
    rcases Nat.lt_or_ge j N.length with q | q
    · rw [List.getElem?_append_left q] at hx
      have := h3 j x hx
      rw [uI_n U _ (hlen j q)]
      have hne : U j ≠ prb (hsF c) d := fun z => by rw [z] at this; omega
      rw [uI_n _ _ hne, uI_n _ _ hne, uI_n _ _ hne]
      exact this
    · rw [List.getElem?_append_right q] at hx
      have hl := (List.getElem?_eq_some_iff.mp hx).1
      simp at hl
      have : j = N.length := by omega
      subst this
      simp at hx
      subst hx
      rw [l1, uI_s, uI_s, uI_s, uI_s]
      exact ⟨⟨(pr d).1, (pr d).2⟩, rfl, rfl, rfl⟩
  · rcases Decidable.em (q = prb (hsF c) d) with z | z
    · rw [z, uI_s, show ((N.length : Int) + 1 - 1) = m by omega, uI_s]
    · rw [uI_n _ _ z] at hq ⊢
      have := h1.1 q a b
      rw [uI_n _ _ (by omega)]
      exact h4 q a b hq
theorem tbR.old {K W U : Int → Int} {m : Int} {N : List (Int × Int)} (h : tbR K W U m N) {c n q : Int} (hq : 0 ≤ q ∧ q < 2048) (hw : W q ≠ 0) (hk : K q = c) (hn : 0 < n) (hb : ∀ x ∈ N, x.2 + n ≤ 9223372036854775807) :
    tbR K (uI W q (W q + n)) U m (insN N c n) := by
  obtain ⟨⟨l1, l2⟩, nd, rg, t, h1, h2, h3, h4⟩ := h
  have ht : t q ≠ 0 := fun z => hw ((h2 q hq.1 hq.2).mp z)
  have hr := h1.1 q hq.1 hq.2
  obtain ⟨x, hx⟩ : ∃ x, N[(t q - 1).toNat]? = some x := ⟨_, List.getElem?_eq_getElem (by omega)⟩
  have hj := h3 _ x hx
  rw [Int.toNat_of_nonneg (by omega), h4 q hq.1 hq.2 ht] at hj
  have hcx : x.1 = c := by rw [← hj.2.2.1, hk]
  have hxw : W q = x.2 := hj.2.2.2
  have e : insN N c n = N.set (t q - 1).toNat (c, x.2 + n) := insN_old nd (by rw [hx, ← hcx])
  have hkey : (N.set (t q - 1).toNat (c, x.2 + n)).map Prod.fst = N.map Prod.fst := by
    apply List.ext_getElem?
    intro i
    rw [List.getElem?_map, List.getElem?_map, List.getElem?_set]
    split
    · rename_i z
      subst z
      rw [if_pos (by omega), hx]
      simp [hcx]
    · rfl
  have hxm := List.mem_of_getElem? hx
  have hset : ∀ (i : Nat) (y : Int × Int), (N.set (t q - 1).toNat (c, x.2 + n))[i]? = some y → (i = (t q - 1).toNat ∧ y = (c, x.2 + n)) ∨ (i ≠ (t q - 1).toNat ∧ N[i]? = some y) := fun i y hy => by
    rw [List.getElem?_set] at hy
    split at hy
    · rename_i z
      subst z
      rw [if_pos (by omega)] at hy
      exact Or.inl ⟨rfl, (Option.some.inj hy).symm⟩
    · rename_i z
      exact Or.inr ⟨fun w => z w.symm, hy⟩
  rw [e]
  refine ⟨⟨by rw [List.length_set]; exact l1, by rw [List.length_set]; exact l2⟩, by rw [hkey]; exact nd, fun y hy => ?_, t, ⟨fun k a b => by rw [List.length_set]; exact h1.1 k a b, fun i y hy => ?_, by rw [List.length_set]; exact h1.2.2⟩, fun p a b => ?_, fun i y hy => ?_, h4⟩
  · obtain ⟨i, hi⟩ := List.getElem?_of_mem hy
    rcases hset i y hi with ⟨-, z⟩ | ⟨-, z⟩
    · rw [z]
      have r1 := rg x hxm
      have r2 := hb x hxm
      rw [← hcx]
      exact ⟨r1.1, by omega, r2⟩
    · exact rg y (List.mem_of_getElem? z)
  · rcases hset i y hy with ⟨z1, z2⟩ | ⟨-, z⟩
    · rw [z1, z2]
      have := h1.2.1 _ x hx
      rw [hcx] at this
      exact this
    · exact h1.2.1 i y z
  · rw [h2 p a b]
    unfold uI
    split
    · rename_i z
      rw [z]
      have r1 := rg x hxm
      omega
    · exact Iff.rfl
  · rcases hset i y hy with ⟨z1, z2⟩ | ⟨z1, z⟩
    · rw [z1, z2, Int.toNat_of_nonneg (by omega), h4 q hq.1 hq.2 ht]
      refine ⟨hq, by omega, hk, ?_⟩
      show uI W q _ q = _
      rw [uI_s, hxw]
    · have := h3 i y z
      refine ⟨this.1, this.2.1, this.2.2.1, ?_⟩
      rw [uI_n _ _ (fun w => z1 (by rw [w] at this; omega))]
      exact this.2.2.2
/-- a table's cells: b 5 or 9 -/
def tS (b : Nat) (S : LbS) : Prop := shp S [b, b + 1, b + 2, b + 3] ∧ zA S b 0 = some (zB S (b + 1)) ∧ zA S b 1 = some (zB S (b + 2)) ∧ zA S b 2 = some (zB S (b + 3))
def tZ (b : Nat) (Z : Nat → Int → Int) (N : List (Int × Int)) : Prop := tbR (Z (b + 1)) (Z (b + 2)) (Z (b + 3)) (Z b 3) N
