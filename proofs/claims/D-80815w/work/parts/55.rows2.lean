/-! more rows: any reference laid into an array of references; casts -/
section RW2
variable {p : Program} {l : Launch} {e : Env} {R : Room} {s : State} {m : MethodId} {args : Array Value} {below : List Frame} {meth : Method} {c : Code} {H : Heap} {locs : List Loc} {cells slots : Nat} {Q : State → Prop}
variable {cc : ByteArray} {pc : Nat} {ls : Array Slot} {rest : List Value} {D : va_G} {T N : Nat → Nat} {A : Nat → Prop} {g : GH} {n nL : Nat} {own : String} {S : LbS} {W1 : Nat → Int → Int}
/-- a cell that is an object of the class called C -/
def hasC (C : String) (s : State) (H : Heap) (v : Nat) : Prop := ∃ cellV : Cell, H[v]? = some cellV ∧ cellV.vm.isStatics = false ∧ s.vm.findClass C = some cellV.cls
theorem hasC_ob (hC : Ct D T N A p s m args c cc own nL) (hX : Wd D A s g n H locs) {v ci : Nat} {vs : List Value} {r : vw_C} (hv : g v = some (oB ci vs)) (hc : CL[ci]? = some r) : hasC r.1 s H v := by
  obtain ⟨r', hr', cellV, g1, g2, g3, -⟩ := hX.2.1 _ _ hv
  have hcls := (hC.K.1 ci r hc).2
  exact ⟨cellV, g1, by rw [g3]; rfl, by rw [g2]; exact hcls.1⟩
theorem hasC_ai (hC : Ct D T N A p s m args c cc own nL) (hX : Wd D A s g n H locs) {v t L : Nat} {f : Int → Int} (hv : g v = some (aI T t L f)) {C : String} (hn : s.vm.findClass C = some (T t)) : hasC C s H v := by
  have h1 := hX.2.1 _ _ hv
  exact ⟨_, h1, rfl, hn⟩
theorem nm_I (hC : Ct D T N A p s m args c cc own nL) : s.vm.findClass "[I" = some (T 0) := (hC.K.2 0 _ rfl).2
theorem nm_B (hC : Ct D T N A p s m args c cc own nL) : s.vm.findClass "[B" = some (T 3) := (hC.K.2 3 _ rfl).2
theorem nm_S (hC : Ct D T N A p s m args c cc own nL) : s.vm.findClass "[S" = some (T 4) := (hC.K.2 4 _ rfl).2
theorem j_aastX (hC : Ct D T N A p s m args c cc own nL) (hX : Wd D A s g n H locs) (t0 : Nat) {a k v : Nat} {C : String} {f : Int → Option Nat} {tE : FieldType} (ha : g a = some (aR T t0 k f)) {kA : Class} {comp : ClassId} {kE : Class} (k1 : s.vm.classes[T t0]? = some kA) (k2 : kA.kind = .array comp tE) (hr : tE.isReference = true) (hkE : s.vm.classes[comp]? = some kE) (hv : hasC C s H v) (hasg : ∀ c0 : ClassId, s.vm.findClass C = some c0 → s.vm.assignable c0 comp = true) {i : Int} (h : 0 ≤ i ∧ i < k ∧ (k : Int) ≤ 2147483647) (hdg : decode cc pc = .ok (.aastore, 1))
    (kk : ∀ (H1 : Heap) (locs1 : List Loc), Wd D A s (va_up g a (some (aR T t0 k (uI f i (some v))))) n H1 locs1 → W p l e R s m args below meth c H1 locs1 cells slots Q (F0 m (pc + 1) ls rest)) : W p l e R s m args below meth c H locs cells slots Q (F0 m pc ls (.ref v :: .int (iI i) :: .ref a :: rest)) := by
  have hin : vp_in (iI i) k := iI_in (by omega)
  have hlt : (iI i).toNatClampNeg < k := Nat.not_le.mp fun q => hin (Or.inr q)
  have h0 : ¬ (iI i) < 0 := fun q => hin (Or.inl q)
  obtain ⟨cellV, g1, g3, g2⟩ := hv
  obtain ⟨kC, hkC, -⟩ := Vm.findClass_spec g2
  refine W.aast hC.x hC.b (hX.2.1 _ _ ha) (fun q h => by cases h) (fun h => by cases h) k1 k2 hr hkE ⟨h0, by show _ < (arrV _ _ _).slots.size; rw [arrV_size]; exact hlt⟩ g1 (fun q h => by rw [h] at g3; cases g3) hkC (hasg _ g2) rfl rfl hdg fun H1 e z oq => ?_
  refine kk H1 _ (hX.put ha ?_ z oq)
  show H1[a]? = some (vp_cell _ _)
  rw [e, vp_cell_q, vp_cell_q, arrV_store, ← vR_up f (by omega)]
  congr 2
  funext q
  by_cases hq : q = (iI i).toNatClampNeg
  · subst hq
    simp [updV, va_up, va_rf]
  · simp [updV, va_up, hq]
/-- into an array of objects of E -/
theorem L_aastC (hC : Ct D T N A p s m args c cc own nL) (hX : Wd D A s g n H locs) (hL : lR T g S W1) (lb t : Nat) {v : Nat} {C E : String} (hk : zK S lb = t + 1) (ht : 5 ≤ t ∧ t < 19) (hT : (TY T)[t]? = some (T t, .object E)) (hv : hasC C s H v) (hcs : (Cond.castable C E) ∈ lw_tbl) (hcw : nestW (Cond.castable C E) = true) {L : Nat} (hn : zN S lb = L) (hLr : L ≤ 2147483647) {i : Int} (h : 0 ≤ i ∧ i < L) (hdg : decode cc pc = .ok (.aastore, 1)) (kk : ∀ (g' : GH) (H1 : Heap) (locs1 : List Loc), Wd D A s g' n H1 locs1 → lR T g' (uA S lb (uI (zA S lb) i (some v))) W1 → W p l e R s m args below meth c H1 locs1 cells slots Q (F0 m (pc + 1) ls rest)) : W p l e R s m args below meth c H locs cells slots Q (F0 m pc ls (.ref v :: .int (iI i) :: .ref (zB S lb) :: rest)) := by
  obtain ⟨kA, comp, k1, k2, k3, -⟩ := (hC.K.2 t _ hT).2
  obtain ⟨kE, hkE, -⟩ := Vm.findClass_spec k3
  refine j_aastX hC hX t (hL.ar lb hk ht hn) k1 k2 rfl hkE hv (fun c0 h0 => ?_) (by omega) hdg (fun H1 locs1 hX1 => kk _ H1 locs1 hX1 (hL.ur lb hk ht hn _))
  obtain ⟨x, t1, f1, f2, f3⟩ := Cond.castable_spec (hC.W.u hcs hcw rfl (A := #[]))
  cases h0.symm.trans f1
  cases k3.symm.trans f2
  exact f3
/-- an array of ints into an array of such -/
theorem L_aastR (hC : Ct D T N A p s m args c cc own nL) (hX : Wd D A s g n H locs) (hL : lR T g S W1) (lb lv : Nat) (hk : zK S lb = 6) (hkv : zK S lv = 1) {L : Nat} (hn : zN S lb = L) (hLr : L ≤ 2147483647) {i : Int} (h : 0 ≤ i ∧ i < L) (hdg : decode cc pc = .ok (.aastore, 1)) (kk : ∀ (g' : GH) (H1 : Heap) (locs1 : List Loc), Wd D A s g' n H1 locs1 → lR T g' (uA S lb (uI (zA S lb) i (some (zB S lv)))) W1 → W p l e R s m args below meth c H1 locs1 cells slots Q (F0 m (pc + 1) ls rest)) : W p l e R s m args below meth c H locs cells slots Q (F0 m pc ls (.ref (zB S lv) :: .int (iI i) :: .ref (zB S lb) :: rest)) := by
  have f5 : s.vm.findClass ("[" ++ (FieldType.array .int).toString) = some (T 5) := (hC.K.2 5 _ rfl).2
  obtain ⟨comp, cA, kA, hcomp, hidx, hkA, hkindA, hnameA⟩ := arrayOverA_spec (aOA_moved (A := #[]) (B := #[]) (Vm.Alike.refl _) (hC.W.w q79 rfl))
  have e2 : cA = T 5 := cls_one hnameA f5
  subst e2
  obtain ⟨kE, hkE, -⟩ := Vm.findClass_spec hcomp
  refine j_aastX (C := "[I") hC hX 5 (hL.ar lb (t := 5) hk (by decide) hn) hkA hkindA rfl hkE (hasC_ai hC hX (hL.ai lv (t := 0) hkv (by decide) rfl) (nm_I hC)) (fun c0 h0 => ?_) (by omega) hdg (fun H1 locs1 hX1 => kk _ H1 locs1 hX1 (hL.ur lb hk (by decide) hn _))
  have e3 : c0 = comp := cls_one h0 hcomp
  rw [e3]
  exact va_asg _ _
end RW2

/-- a method with handlers -/
theorem j_startW {l : Launch} {y : MethodName} {cc : ByteArray} {nL : Nat} {ret : Option FieldType} {hh : List (Nat × Nat × Nat × Nat)} {rm : Room} {D : va_G} {T N : Nat → Nat} {av : List Value} {g : GH} {n mc ms : Nat} {Qc : Array Value → State → Outcome → State → Prop} (hy : plainName y.cls = true) (hn : (lg_sl av).length ≤ nL)
    (body : ∀ (p : Program) (e : Env) (s : State) (m : MethodId) (args : Array Value) (below : List Frame) (meth : Method) (c : Code), Ct D T N (gA g n) p s m args c cc y.cls nL → meth.sig.returnType = ret → meth.locks = false → meth.name = y.name → Wd D (gA g n) s g n s.heap [] → ∀ ls : Array Slot, lv_has ls nL (lv_args 0 av) → W p l e rm s m args below meth c s.heap [] 0 0 (MQ below Qc args s mc ms (gA g n)) (F0 m 0 ls [])) :
    Met l y (wsW_ y cc nL ret hh) rm (gPc D T N av g n) Qc mc ms (gA g n) := by
  refine va_MetW (cc := cc) (maxL := nL) (ret := ret) (hh := hh) hy rfl ?_
  intro p e s m args below meth c s₁ B hml hv
  obtain ⟨rfl, hsz, hP, hK, hT, hZ⟩ := hv
  have hts := atoms_spec (ws := wsW_ y cc nL ret hh) B.pre
  have hts : ∀ w ∈ lw_all, w.before _ s = true := fun w h => hts w (List.mem_cons_of_mem _ h)
  have hl := lv_entry av (n := nL) hn
  rw [lg_entry_eq]
  exact body p e s m av.toArray below meth c ⟨B.exec, B.bytes, hts, findClass_of_methodNamed B.named, hK, hT, hZ, hml⟩ B.returns B.notSynchronized (name_of_methodNamed B.named B.method).1 ⟨hsz, hP, fun a ha => Or.inl ha, va_S.rf, fun q hq => Or.inr (by rw [← hsz]; exact hq)⟩ _ hl
