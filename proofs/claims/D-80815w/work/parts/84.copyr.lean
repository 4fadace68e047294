/-! System.arraycopy of references -/
def cpR (f g1 : Int → Option Nat) (sp dp k : Int) : Int → Option Nat := fun j => if dp ≤ j ∧ j < dp + k then f (sp + (j - dp)) else g1 j
theorem cpR_v {f g1 : Int → Option Nat} {sp dp k : Int} (h : 0 ≤ sp ∧ 0 ≤ dp ∧ 0 ≤ k) : va_cpy (vR f) (vR g1) sp.toNat dp.toNat k.toNat = vR (cpR f g1 sp dp k) := by
  funext j
  unfold va_cpy vR cpR
  by_cases q : dp.toNat ≤ j ∧ j < dp.toNat + k.toNat
  · rw [if_pos q, if_pos (by omega)]
    congr 1
    omega
  · rw [if_neg q, if_neg (by omega)]
section CPR
variable {p : Program} {l : Launch} {e : Env} {R : Room} {s : State} {m : MethodId} {args : Array Value} {below : List Frame} {meth : Method} {c : Code} {H : Heap} {locs : List Loc} {cells slots : Nat} {Q : State → Prop}
variable {cc : ByteArray} {pc : Nat} {ls : Array Slot} {rest : List Value} {D : va_G} {T N : Nat → Nat} {A : Nat → Prop} {g : GH} {n nL : Nat} {own : String} {S : LbS} {W1 : Nat → Int → Int}
theorem j_copyR (hC : Ct D T N A p s m args c cc own nL) (hX : Wd D A s g n H locs) (t : Nat) {C E : String} (hty : (TY T)[t]? = some (T t, .object E)) {index : Nat} (hlink : (Cond.methodLink own index arraycopyName) ∈ lw_all) (hcs : (Cond.castable C E) ∈ lw_tbl) (hcw : nestW (Cond.castable C E) = true) (hls : ls.size = nL) {a0 a n0 n1 : Nat} {f g1 : Int → Option Nat} (ha0 : g a0 = some (aR T t n0 f)) (ha1 : g a = some (aR T t n1 g1)) {sp dp k : Int} (h : 0 ≤ sp ∧ 0 ≤ dp ∧ 0 ≤ k ∧ sp + k ≤ n0 ∧ dp + k ≤ n1 ∧ n0 ≤ 100000 ∧ n1 ≤ 100000)
    (hel : ∀ i : Int, 0 ≤ i → i < k → ∀ y : Nat, f (sp + i) = some y → hasC C s H y) (hframes : 1 ≤ R.frames) (hlocals : (rest.map fun v => v.category).sum + (nativeFrameWords "java/lang/System" "arraycopy" 5 + 11) ≤ R.locals) (hdg : decode cc pc = .ok (.invokestatic index, 3))
    (kk : ∀ (H1 : Heap) (locs1 : List Loc), Wd D A s (va_up g a (some (aR T t n1 (cpR f g1 sp dp k)))) n H1 locs1 → W p l e R s m args below meth c H1 locs1 cells slots Q (F0 m (pc + 3) ls rest)) : W p l e R s m args below meth c H locs cells slots Q (F0 m pc ls (.int (iI k) :: .int (iI dp) :: .ref a :: .int (iI sp) :: .ref a0 :: rest)) := by
  have nn : ∀ z : Int32, ¬ z < 0 → z.toInt = (z.toNatClampNeg : Int) := by
    intro z hz
    have hz0 : (0 : Int) ≤ z.toInt := by
      have := Int32.not_lt.mp hz
      simpa using Int32.le_iff_toInt_le.mp this
    show z.toInt = ((z.toInt.toNat : Nat) : Int)
    omega
  have ng : ∀ z : Int, 0 ≤ z → z ≤ 100000 → ¬ iI z < 0 := fun z q1 q2 q => by
    have := (iI_lt (a := z) (b := 0) (by omega)).mp q
    omega
  have cs := iI_nat (z := sp) (by omega) (by omega)
  have cd := iI_nat (z := dp) (by omega) (by omega)
  have ck := iI_nat (z := k) (by omega) (by omega)
  have h1 := ng sp (by omega) (by omega)
  have h2 := ng dp (by omega) (by omega)
  have h3 := ng k (by omega) (by omega)
  intro Tt hT X
  have hc0 : H[a0]? = some (vp_cell (T t) (n0, .inr (.inr (.inr (.inr (vR f)))))) := hX.2.1 _ _ ha0
  have hc1 : H[a]? = some (vp_cell (T t) (n1, .inr (.inr (.inr (.inr (vR g1)))))) := hX.2.1 _ _ ha1
  obtain ⟨-, k0, hk0, cm0, hkk0⟩ := (hC.K.2 t _ hty).1 n0 (fun j => va_rf (vR f j))
  obtain ⟨-, k1, hk1, cm1, hkk1⟩ := (hC.K.2 t _ hty).1 n1 (fun j => va_rf (vR g1 j))
  obtain ⟨vm', X', step⟩ := X.arraycopy hC.x hC.ow (hC.ts _ hlink) (hC.ts _ q511) (hC.ts _ q510) (hC.ts _ q51) (src := a0) (dst := a) (cs := vp_cell (T t) (n0, .inr (.inr (.inr (.inr (vR f)))))) (cd := vp_cell (T t) (n1, .inr (.inr (.inr (.inr (vR g1)))))) (srcPos := iI sp) (destPos := iI dp) (n := iI k) (by rw [hT]; exact hc0) (by rw [hT]; exact hc1)
    (fun _ h => by cases h) (fun _ h => by cases h) (fun h => by cases h) (fun h => by cases h) hk0 hk1 hkk0 hkk1 rfl h1 h2 h3
    (by rw [nn _ h1, nn _ h3, cs, ck]; show ¬ _ > ((arrV (T t) n0 (fun j => va_rf (vR f j))).slots.size : Int); rw [arrV_size]; omega)
    (by rw [nn _ h2, nn _ h3, cd, ck]; show ¬ _ > ((arrV (T t) n1 (fun j => va_rf (vR g1 j))).slots.size : Int); rw [arrV_size]; omega)
    (fun vm₁ hal i hi => by
      rw [ck] at hi
      have e : (vp_cell (T t) (n0, .inr (.inr (.inr (.inr (vR f)))))).slots.getD ((iI sp).toNatClampNeg + i) .null = va_rf (f (sp + i)) := by
        show (arrV (T t) n0 (fun j => va_rf (vR f j))).slots.getD _ _ = _
        rw [cs, Array.getD_eq_getD_getElem?, arrV_read _ _ (by omega)]
        show va_rf (f ((sp.toNat + i : Nat) : Int)) = _
        congr 2
        omega
      rw [e]
      cases hy : f (sp + i) with
      | none => exact ⟨rfl, trivial⟩
      | some y =>
        obtain ⟨cellV, g1', g2, g3⟩ := hel i (by omega) (by omega) y hy
        obtain ⟨kA, comp, r1, r2, r3, -⟩ := (hC.K.2 t _ hty).2
        cases hk1.symm.trans r1
        cases hkk1.symm.trans r2
        obtain ⟨kC, hkC, -⟩ := Vm.findClass_spec g3
        obtain ⟨kE, hkE, -⟩ := Vm.findClass_spec r3
        obtain ⟨kC', hkC', -⟩ := hal.2.2 _ _ hkC
        obtain ⟨kE', hkE', -⟩ := hal.2.2 _ _ hkE
        obtain ⟨x, t1, f1, f2, f3⟩ := Cond.castable_spec (hC.W.u hcs hcw rfl (A := #[]))
        cases g3.symm.trans f1
        cases r3.symm.trans f2
        refine ⟨rfl, cellV, (show Tt.heap[y]? = some cellV by rw [hT]; exact g1'), (fun q h => by rw [h] at g2; cases g2), ⟨kC', hkC'⟩, ?_, ?_⟩
        · exact ⟨kE', hkE'⟩
        · show vm₁.assignable _ _ = true
          rw [hal.assignable]
          exact f3)
    (g := F0 m pc ls (.int (iI k) :: .int (iI dp) :: .ref a :: .int (iI sp) :: .ref a0 :: rest)) rfl (by rw [hC.2.2.2.2.2.2.2]; exact hls) (rest := rest) rfl (by rw [hC.b]; exact hdg) hframes (by show 2 * 0 + _ + _ ≤ _; omega)
  have e1 : copied (vp_cell (T t) (n0, .inr (.inr (.inr (.inr (vR f)))))) (vp_cell (T t) (n1, .inr (.inr (.inr (.inr (vR g1)))))) (iI sp) (iI dp) (iI k) = vp_cell (T t) (n1, .inr (.inr (.inr (.inr (vR (cpR f g1 sp dp k)))))) := by
    rw [← cpR_v (by omega), vp_cell_q, vp_cell_q, vp_cell_q]
    have := va_copied (fun z => va_rf z) (T t) (T t) (vR f) (vR g1) (n0 := n0) (n1 := n1) (sp := (iI sp).toNatClampNeg) (dp := (iI dp).toNatClampNeg) (n := (iI k).toNatClampNeg) (by rw [cs, ck]; omega)
    rw [← cs, ← cd, ← ck]
    exact this
  rw [e1] at X' step
  have hl : a < H.size := (Array.getElem?_eq_some_iff.mp hc1).1
  have hheap : ((Tt.setVm vm').setCell a (vp_cell (T t) (n1, .inr (.inr (.inr (.inr (vR (cpR f g1 sp dp k)))))))).heap = H.setIfInBounds a (vp_cell (T t) (n1, .inr (.inr (.inr (.inr (vR (cpR f g1 sp dp k))))))) := by rw [← hT]; rfl
  have oq : ∀ q : Nat, q ≠ a → (H.setIfInBounds a (vp_cell (T t) (n1, .inr (.inr (.inr (.inr (vR (cpR f g1 sp dp k))))))))[q]? = H[q]? := fun q hq => by simp [Array.getElem?_setIfInBounds, Ne.symm hq]
  obtain ⟨t9, a1, b1⟩ := kk _ _ (hX.puts (e := aR T t n1 (cpR f g1 sp dp k)) ha1 (show (H.setIfInBounds a _)[a]? = some (vp_cell (T t) (n1, .inr (.inr (.inr (.inr (vR (cpR f g1 sp dp k))))))) by simp [Array.getElem?_setIfInBounds, hl]) (by simp) oq (fun q hq => by
    obtain ⟨z, -, hz⟩ := List.mem_map.mp hq
    rw [← hz])) _ hheap X'
  exact ⟨t9, step t9 a1, b1⟩
end CPR
