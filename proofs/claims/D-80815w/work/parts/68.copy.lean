/-! System.arraycopy of numbers -/
theorem Wd.puts {D : va_G} {A : Nat → Prop} {s : State} {g : GH} {n : Nat} {H H1 : Heap} {locs : List Loc} (h : Wd D A s g n H locs) {a : Nat} {e0 e : va_E} (ha : g a = some e0) (he : va_at D CL (a, e) H1) (hz : H1.size = H.size) (oq : ∀ q : Nat, q ≠ a → H1[q]? = H[q]?) {L : List Loc} (hL : ∀ l ∈ L, l.base = a) : Wd D A s (va_up g a (some e)) n H1 (locs ++ L) := by
  obtain ⟨h1, h2, h3, h4, h5⟩ := h
  have hA : A a := h3 a (by rw [ha]; exact fun z => by cases z)
  refine ⟨hz.trans h1, fun b x hb => ?_, fun b hb => ?_, ⟨by rw [hz]; exact h4.1, fun q g1 g2 => ?_, fun l hl => ?_⟩, h5⟩
  · by_cases q : b = a
    · subst q
      rw [va_up_self] at hb
      cases hb
      exact he
    · rw [va_up_ne _ _ q] at hb
      exact (h2 b x hb).kept (oq b q)
  · by_cases q : b = a
    · rw [q]; exact hA
    · rw [va_up_ne _ _ q] at hb
      exact h3 b hb
  · rw [oq q (fun e => g2 (by rw [e]; exact hA))]
    exact h4.2.1 q g1 g2
  · rcases List.mem_append.mp hl with q | q
    · exact h4.2.2 l q
    · rw [hL l q]; exact hA
def cpF (f g1 : Int → Int) (sp dp k : Int) : Int → Int := fun j => if dp ≤ j ∧ j < dp + k then f (sp + (j - dp)) else g1 j
theorem cpF_v {f g1 : Int → Int} {sp dp k : Int} (h : 0 ≤ sp ∧ 0 ≤ dp ∧ 0 ≤ k) : va_cpy (vI f) (vI g1) sp.toNat dp.toNat k.toNat = vI (cpF f g1 sp dp k) := by
  funext j
  unfold va_cpy vI cpF
  by_cases q : dp.toNat ≤ j ∧ j < dp.toNat + k.toNat
  · rw [if_pos q, if_pos (by omega)]
    congr 2
    omega
  · rw [if_neg q, if_neg (by omega)]
section CPY
variable {p : Program} {l : Launch} {e : Env} {R : Room} {s : State} {m : MethodId} {args : Array Value} {below : List Frame} {meth : Method} {c : Code} {H : Heap} {locs : List Loc} {cells slots : Nat} {Q : State → Prop}
variable {cc : ByteArray} {pc : Nat} {ls : Array Slot} {rest : List Value} {D : va_G} {T N : Nat → Nat} {A : Nat → Prop} {g : GH} {n nL : Nat} {own : String} {S : LbS} {W1 : Nat → Int → Int}
theorem j_copyI (hC : Ct D T N A p s m args c cc own nL) (hX : Wd D A s g n H locs) (t : Nat) {ty : FieldType} (hty : (TY T)[t]? = some (T t, ty)) (hprim : refKind ty = false) {index : Nat} (hlink : (Cond.methodLink own index arraycopyName) ∈ lw_all) (hls : ls.size = nL) {a0 a n0 n1 : Nat} {f g1 : Int → Int} (ha0 : g a0 = some (aI T t n0 f)) (ha1 : g a = some (aI T t n1 g1)) {sp dp k : Int} (h : 0 ≤ sp ∧ 0 ≤ dp ∧ 0 ≤ k ∧ sp + k ≤ n0 ∧ dp + k ≤ n1 ∧ n0 ≤ 100000 ∧ n1 ≤ 100000)
    (hfit : ∀ i : Int, 0 ≤ i → i < k → fits ty (.int (iI (f (sp + i)))) = true) (hframes : 1 ≤ R.frames) (hlocals : (rest.map fun v => v.category).sum + (nativeFrameWords "java/lang/System" "arraycopy" 5 + 11) ≤ R.locals) (hdg : decode cc pc = .ok (.invokestatic index, 3))
    (kk : ∀ (H1 : Heap) (locs1 : List Loc), Wd D A s (va_up g a (some (aI T t n1 (cpF f g1 sp dp k)))) n H1 locs1 → W p l e R s m args below meth c H1 locs1 cells slots Q (F0 m (pc + 3) ls rest)) : W p l e R s m args below meth c H locs cells slots Q (F0 m pc ls (.int (iI k) :: .int (iI dp) :: .ref a :: .int (iI sp) :: .ref a0 :: rest)) := by
  have nn : ∀ z : Int32, ¬ z < 0 → z.toInt = (z.toNatClampNeg : Int) := by
    intro z hz
    have hz0 : (0 : Int) ≤ z.toInt := by
      have := Int32.not_lt.mp hz
      simpa using Int32.le_iff_toInt_le.mp this
    show z.toInt = ((z.toInt.toNat : Nat) : Int)
    omega
  have ng : ∀ z : Int, 0 ≤ z → z ≤ 100000 → ¬ iI z < 0 := fun z q1 q2 q => by
    have := (iI_lt (a := z) (b := 0) (by omega)).mp q
    omega
  have cs := iI_nat (z := sp) (by omega) (by omega)
  have cd := iI_nat (z := dp) (by omega) (by omega)
  have ck := iI_nat (z := k) (by omega) (by omega)
  have h1 := ng sp (by omega) (by omega)
  have h2 := ng dp (by omega) (by omega)
  have h3 := ng k (by omega) (by omega)
  intro Tt hT X
  have hc0 : H[a0]? = some (vp_cell (T t) (n0, .inl (vI f))) := hX.2.1 _ _ ha0
  have hc1 : H[a]? = some (vp_cell (T t) (n1, .inl (vI g1))) := hX.2.1 _ _ ha1
  obtain ⟨-, k0, hk0, cm0, hkk0⟩ := (hC.K.2 t _ hty).1 n0 (fun j => .int (vI f j))
  obtain ⟨-, k1, hk1, cm1, hkk1⟩ := (hC.K.2 t _ hty).1 n1 (fun j => .int (vI g1 j))
  obtain ⟨vm', X', step⟩ := X.arraycopy hC.x hC.ow (hC.ts _ hlink) (hC.ts _ q511) (hC.ts _ q510) (hC.ts _ q51) (src := a0) (dst := a) (cs := vp_cell (T t) (n0, .inl (vI f))) (cd := vp_cell (T t) (n1, .inl (vI g1))) (srcPos := iI sp) (destPos := iI dp) (n := iI k) (by rw [hT]; exact hc0) (by rw [hT]; exact hc1)
    (fun _ h => by cases h) (fun _ h => by cases h) (fun h => by cases h) (fun h => by cases h) hk0 hk1 hkk0 hkk1 (by simp [hprim]) h1 h2 h3
    (by rw [nn _ h1, nn _ h3, cs, ck]; show ¬ _ > ((arrV (T t) n0 (fun j => .int (vI f j))).slots.size : Int); rw [arrV_size]; omega)
    (by rw [nn _ h2, nn _ h3, cd, ck]; show ¬ _ > ((arrV (T t) n1 (fun j => .int (vI g1 j))).slots.size : Int); rw [arrV_size]; omega)
    (fun vm₁ _ i hi => by
      rw [ck] at hi
      have e : (vp_cell (T t) (n0, .inl (vI f))).slots.getD ((iI sp).toNatClampNeg + i) .null = .int (iI (f (sp + i))) := by
        show (arrV (T t) n0 (fun j => .int (vI f j))).slots.getD _ _ = _
        rw [cs, Array.getD_eq_getD_getElem?, arrV_read _ _ (by omega)]
        show Value.int (iI (f ((sp.toNat + i : Nat) : Int))) = _
        congr 3
        omega
      refine ⟨?_, ?_⟩
      · rw [e]
        exact hfit i (by omega) (by omega)
      · rw [e]
        exact trivial)
    (g := F0 m pc ls (.int (iI k) :: .int (iI dp) :: .ref a :: .int (iI sp) :: .ref a0 :: rest)) rfl (by rw [hC.2.2.2.2.2.2.2]; exact hls) (rest := rest) rfl (by rw [hC.b]; exact hdg) hframes (by show 2 * 0 + _ + _ ≤ _; omega)
  have e1 : copied (vp_cell (T t) (n0, .inl (vI f))) (vp_cell (T t) (n1, .inl (vI g1))) (iI sp) (iI dp) (iI k) = vp_cell (T t) (n1, .inl (vI (cpF f g1 sp dp k))) := by
    rw [← cpF_v (by omega)]
    have := va_copied (fun z => .int z) (T t) (T t) (vI f) (vI g1) (n0 := n0) (n1 := n1) (sp := (iI sp).toNatClampNeg) (dp := (iI dp).toNatClampNeg) (n := (iI k).toNatClampNeg) (by rw [cs, ck]; omega)
    rw [← cs, ← cd, ← ck]
    exact this
  rw [e1] at X' step
  have hl : a < H.size := (Array.getElem?_eq_some_iff.mp hc1).1
  have hheap : ((Tt.setVm vm').setCell a (vp_cell (T t) (n1, .inl (vI (cpF f g1 sp dp k))))).heap = H.setIfInBounds a (vp_cell (T t) (n1, .inl (vI (cpF f g1 sp dp k)))) := by rw [← hT]; rfl
  have oq : ∀ q : Nat, q ≠ a → (H.setIfInBounds a (vp_cell (T t) (n1, .inl (vI (cpF f g1 sp dp k)))))[q]? = H[q]? := fun q hq => by simp [Array.getElem?_setIfInBounds, Ne.symm hq]
  obtain ⟨t9, a1, b1⟩ := kk _ _ (hX.puts (e := aI T t n1 (cpF f g1 sp dp k)) ha1 (show (H.setIfInBounds a _)[a]? = some (vp_cell (T t) (n1, .inl (vI (cpF f g1 sp dp k)))) by simp [Array.getElem?_setIfInBounds, hl]) (by simp) oq (fun q hq => by
    obtain ⟨z, -, hz⟩ := List.mem_map.mp hq
    rw [← hz])) _ hheap X'
  exact ⟨t9, step t9 a1, b1⟩
theorem L_copyI (hC : Ct D T N A p s m args c cc own nL) (hX : Wd D A s g n H locs) (hL : lR T g S W1) (l0 l1 t : Nat) {ty : FieldType} (hty : (TY T)[t]? = some (T t, ty)) (ht : t < 5 ∧ t ≠ 1) (hprim : refKind ty = false) {index : Nat} (hlink : (Cond.methodLink own index arraycopyName) ∈ lw_all) (hls : ls.size = nL) (hk0 : zK S l0 = t + 1) (hk1 : zK S l1 = t + 1) {n0 n1 : Nat} (hn0 : zN S l0 = n0) (hn1 : zN S l1 = n1) {sp dp k : Int} (h : 0 ≤ sp ∧ 0 ≤ dp ∧ 0 ≤ k ∧ sp + k ≤ n0 ∧ dp + k ≤ n1 ∧ n0 ≤ 100000 ∧ n1 ≤ 100000)
    (hfit : ∀ i : Int, 0 ≤ i → i < k → fits ty (.int (iI (W1 l0 (sp + i)))) = true) (hframes : 1 ≤ R.frames) (hlocals : (rest.map fun v => v.category).sum + (nativeFrameWords "java/lang/System" "arraycopy" 5 + 11) ≤ R.locals) (hdg : decode cc pc = .ok (.invokestatic index, 3))
    (kk : ∀ (g' : GH) (H1 : Heap) (locs1 : List Loc), Wd D A s g' n H1 locs1 → lR T g' S (va_up W1 l1 (cpF (W1 l0) (W1 l1) sp dp k)) → W p l e R s m args below meth c H1 locs1 cells slots Q (F0 m (pc + 3) ls rest)) : W p l e R s m args below meth c H locs cells slots Q (F0 m pc ls (.int (iI k) :: .int (iI dp) :: .ref (zB S l1) :: .int (iI sp) :: .ref (zB S l0) :: rest)) :=
  j_copyI hC hX t hty hprim hlink hls (hL.ai l0 hk0 ht hn0) (hL.ai l1 hk1 ht hn1) h hfit hframes hlocals hdg (fun H1 locs1 hX1 => kk _ H1 locs1 hX1 (hL.ui l1 hk1 ht hn1 _))
end CPY
