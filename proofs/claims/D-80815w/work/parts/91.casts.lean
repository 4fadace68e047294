/-! a cast that fails, indexes out of bounds, null rows, negative lengths: the machine's throws over the rows of a sheet -/
def cceA (a b h : String) : String := "class " ++ dotted a ++ " cannot be cast to class " ++ dotted b ++ " (" ++ (dotted a ++ " and " ++ dotted b ++ " are in " ++ (h ++ " of loader " ++ "'bootstrap'")) ++ ")"
theorem cce_text {vm : Vm} {ks kt : Class} {a b : String} {c1 c2 : ClassId} {t1 t2 : FieldType} (h1 : ks.name = a) (h2 : ks.hidden = none) (h3 : ks.loader = none) (h4 : ks.kind = .array c1 t1) (h5 : (withoutBrackets a).length == 1) (g1 : kt.name = b) (g2 : kt.hidden = none) (g3 : kt.loader = none) (g4 : kt.kind = .array c2 t2) (g5 : (withoutBrackets b).length == 1) :
    checkcast.message vm ks kt = cceA a b "module java.base" ∨ checkcast.message vm ks kt = cceA a b "unnamed module" := by
  have s1 : ks.shown = dotted a := by unfold Class.shown; rw [h2, h1]
  have s2 : kt.shown = dotted b := by unfold Class.shown; rw [g2, g1]
  have p1 : ks.ofPrimitives = true := by unfold Class.ofPrimitives; rw [h4, h1]; exact h5
  have p2 : kt.ofPrimitives = true := by unfold Class.ofPrimitives; rw [g4, g1]; exact g5
  have m1 : vm.moduleOf ks = vm.modules.find? (·.name == "java.base") := by unfold Vm.moduleOf; rw [if_pos p1]
  have m2 : vm.moduleOf kt = vm.modules.find? (·.name == "java.base") := by unfold Vm.moduleOf; rw [if_pos p2]
  have sm_ : vm.sameModule ks kt = true := by
    unfold Vm.sameModule
    rw [m1, m2, h3, g3]
    cases vm.modules.find? (·.name == "java.base") with
    | none => rfl
    | some x => exact beq_self_eq_true _
  have e : checkcast.message vm ks kt = "class " ++ dotted a ++ " cannot be cast to class " ++ dotted b ++ " (" ++ (dotted a ++ " and " ++ dotted b ++ " are in " ++ vm.home ks) ++ ")" := by
    unfold checkcast.message Vm.homes
    rw [if_pos sm_, s1, s2]
    rfl
  rw [e]
  unfold Vm.home
  rw [m1, h3]
  cases hf : vm.modules.find? (·.name == "java.base") with
  | none => exact Or.inr rfl
  | some x =>
    have := List.find?_some hf
    have : x.name = "java.base" := eq_of_beq this
    refine Or.inl ?_
    show _ ++ (_ ++ (("module " ++ x.name) ++ " of loader " ++ "'bootstrap'")) ++ ")" = _
    rw [this]
    rfl
theorem castNo {p : Program} {l : Launch} {e : Env} {R : Room} {s : State} {m : MethodId} {args : Array Value} {below : List Frame} {meth : Method} {c : Code} {T : State} {locs : List Loc} {cells slots : Nat} (X : Stand p l e R s m args below meth c T locs cells slots) (hexec : p.tables.exec = Jvm.exec)
    {own name : String} {index : Nat} (hown : s.vm.findClass own = some m.cls) (hlink : (Cond.classLink own index name).before args s = true)
    {a : Addr} {cell : Cell} {cT : ClassId} {ks : Class} (hcell : T.heap[a]? = some cell) (hobj : ∀ k, cell.vm ≠ .statics k) (hks : s.vm.classes[cell.cls]? = some ks)
    (hcT : s.vm.findClass name = some cT) (hasg : s.vm.assignable cell.cls cT = false)
    {g : JFrame} (hg : g.method = m) {rest : List Value} (hstack : g.stack = .ref a :: rest) (hdg : decode c.code g.pc = .ok (.checkcast index, 3)) :
    ∃ (vm' : Vm) (ks' kt' : Class), s.vm.Alike vm' ∧ vm'.classes[cell.cls]? = some ks' ∧ vm'.classes[cT]? = some kt' ∧ Stand p l e R s m args below meth c (T.setVm vm') locs cells slots ∧
      ∀ target, Steps p.tables e below (((T.setVm vm').setTop g).pushFrame (.throwNew "java/lang/ClassCastException" (some (checkcast.message vm' ks' kt')) none)) target → Steps p.tables e below (T.setTop g) target := by
  have hpl : e.platform.magicAccessors = ({} : Platform).magicAccessors := by rw [X.admits.platform]
  obtain ⟨c', hc', hcl⟩ := Cond.classLink_spec hown hlink e.platform hpl
  cases hcT.symm.trans hc'
  obtain ⟨dk, _, _, kt, hd, _, _, _, _, hkt, _, hopen⟩ := hcl.here
  have hcl₀ := X.warmed.classLinks hcl
  have hW' : s.WarmedH (T.vm.noted m.cls index (.cls cT)) := X.warmed.noted hd hopen (State.rightAt_cls hcl)
  obtain ⟨ks', hks', -⟩ := hW'.alike.2.2 _ _ hks
  obtain ⟨kt', hkt', -⟩ := hW'.alike.2.2 _ _ hkt
  refine ⟨_, ks', kt', hW'.alike, hks', hkt', X.noted hW', fun target hrest => ?_⟩
  subst hg
  jvm_step X.here [hexec, hdg, checkcast.wp_cold (e := e) (s := T) (f := g) X.here.top hstack (resolveClass_links e.toSetting hcl₀) hcl₀.ready,
    checkcast.wp_ready (e := e) (s := T.setVm (T.vm.noted g.method.cls index (.cls cT))) (f := g) X.here.top hcl₀.ready hstack]
  refine ⟨cell, hcell, hobj, ks', hks', kt', hkt', ?_⟩
  rw [if_neg (by rw [hW'.alike.assignable, hasg]; decide)]
  exact hrest
/-- the arrays of bytes, shorts, ints: their names -/
def arN (t : Nat) : String := if t = 3 then "[B" else if t = 4 then "[S" else "[I"
def arT (t : Nat) : FieldType := if t = 3 then .byte else if t = 4 then .short else .int
section JCX
variable {p : Program} {l : Launch} {e : Env} {R : Room} {s : State} {m : MethodId} {args : Array Value} {below : List Frame} {meth : Method} {c : Code} {H : Heap} {locs : List Loc} {cells slots : Nat} {Q : State → Prop}
variable {cc : ByteArray} {pc : Nat} {ls : Array Slot} {rest : List Value} {D : va_G} {T N : Nat → Nat} {A : Nat → Prop} {g : GH} {n nL : Nat} {own : String} {S : LbS} {W1 : Nat → Int → Int}
theorem find_facts {vm : Vm} {nm : String} {c : ClassId} (h : vm.findClass nm = some c) : ∃ k, vm.classes[c]? = some k ∧ k.name = nm ∧ k.hidden = none ∧ k.loader = none := by
  obtain ⟨hlt, hp, _⟩ := Array.findIdx?_eq_some_iff_getElem.mp h
  refine ⟨vm.classes[c], by simp [hlt], ?_⟩
  simp only [Bool.and_eq_true, beq_iff_eq, Option.isNone_iff_eq_none] at hp
  exact ⟨hp.1.1.1, hp.1.1.2, hp.2⟩
theorem arr_facts (hC : Ct D T N A p s m args c cc own nL) {t : Nat} (ht : t = 0 ∨ t = 3 ∨ t = 4) : s.vm.findClass (arN t) = some (T t) ∧ ∃ (k : Class) (cm : ClassId), s.vm.classes[T t]? = some k ∧ k.name = arN t ∧ k.hidden = none ∧ k.loader = none ∧ k.kind = .array cm (arT t) ∧ ((withoutBrackets (arN t)).length == 1) = true := by
  have f : s.vm.findClass (arN t) = some (T t) := by rcases ht with rfl | rfl | rfl; exact nm_I hC; exact nm_B hC; exact nm_S hC
  obtain ⟨k, hk, h1, h2, h3⟩ := find_facts f
  have hT : (TY T)[t]? = some (T t, arT t) := by rcases ht with rfl | rfl | rfl <;> rfl
  obtain ⟨-, k0, hk0, cm0, hkk0⟩ := (hC.K.2 t _ hT).1 0 (fun _ => .null)
  have hk0 : s.vm.classes[T t]? = some k0 := hk0
  cases hk.symm.trans hk0
  exact ⟨f, k, cm0, hk, h1, h2, h3, hkk0, by rcases ht with rfl | rfl | rfl <;> decide⟩
theorem jx_castNo (hC : Ct D T N A p s m args c cc own nL) (hX : Wd D A s g n H locs) {t u L v : Nat} {f : Int → Int} (ht : t = 0 ∨ t = 3 ∨ t = 4) (hu : u = 0 ∨ u = 3 ∨ u = 4) (hN : (arN t, arN u) ∈ NCL) {index : Nat} (hlink : (Cond.classLink own index (arN u)) ∈ lw_all) (ha : g v = some (aI T t L f)) (hdg : decode cc pc = .ok (.checkcast index, 3))
    (k : ∀ tx : String, (tx = cceA (arN t) (arN u) "module java.base" ∨ tx = cceA (arN t) (arN u) "unnamed module") → vx_Note p l e R s m args below meth c H locs cells slots Q (F0 m pc ls (.ref v :: rest)) "java/lang/ClassCastException" tx) : W p l e R s m args below meth c H locs cells slots Q (F0 m pc ls (.ref v :: rest)) := by
  intro Tt hT X
  obtain ⟨f1, k1, cm1, hk1, a1, a2, a3, a4, a5⟩ := arr_facts hC ht
  obtain ⟨f2, k2, cm2, hk2, b1, b2, b3, b4, b5⟩ := arr_facts hC hu
  obtain ⟨c1, c2, h1, h2, h3⟩ := hC.W.2 _ hN
  cases f1.symm.trans h1
  cases f2.symm.trans h2
  have hc : H[v]? = some (vp_cell (T t) (L, .inl (vI f))) := hX.2.1 _ _ ha
  obtain ⟨vm', ks', kt', al, hks', hkt', X', st⟩ := castNo X hC.x hC.ow (hC.ts _ hlink) (a := v) (cell := vp_cell (T t) (L, .inl (vI f))) (by rw [hT]; exact hc) (fun _ h => by cases h) hk1 f2 h3 (g := F0 m pc ls (.ref v :: rest)) rfl (rest := rest) rfl (by rw [hC.b]; exact hdg)
  obtain ⟨q1, w1, e1⟩ := al.2.2 _ _ hk1
  obtain ⟨q2, w2, e2⟩ := al.2.2 _ _ hk2
  have hks' : vm'.classes[T t]? = some ks' := hks'
  cases hks'.symm.trans w1
  cases hkt'.symm.trans w2
  have htx := cce_text (vm := vm') (ks := ks') (kt := kt') (a := arN t) (b := arN u) (by rw [e1]; exact a1) (by rw [e1]; exact a2) (by rw [e1]; exact a3) (by rw [e1]; exact a4) a5 (by rw [e2]; exact b1) (by rw [e2]; exact b2) (by rw [e2]; exact b3) (by rw [e2]; exact b4) b5
  obtain ⟨t9, x1, x2⟩ := k _ htx (Tt.setVm vm') hT X'
  exact ⟨t9, st t9 x1, x2⟩
end JCX
theorem cce_ok {t u : Nat} (ht : t = 0 ∨ t = 3 ∨ t = 4) (hu : u = 0 ∨ u = 3 ∨ u = 4) {tx : String} (h : tx = cceA (arN t) (arN u) "module java.base" ∨ tx = cceA (arN t) (arN u) "unnamed module") : (tx == notModelled) = false ∧ (stringBytes (stringToUtf16 tx)).size ≤ 400 := by
  rcases h with rfl | rfl <;> rcases ht with rfl | rfl | rfl <;> rcases hu with rfl | rfl | rfl <;> exact ⟨by decide +kernel, by decide +kernel⟩
