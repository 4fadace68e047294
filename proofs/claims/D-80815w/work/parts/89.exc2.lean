/-! exceptions over a world: contracts of methods that throw, the machine's own throws, catching -/
def gX (D : va_G) (g : GH) (n : Nat) (px : String → Prop) : String → State → State → Prop := vx_X (fun (_ : Nat) => True) (fun E n' t => px E ∧ gB D g n g n' t) (gA g n)
/-- an exception over the frame: where it lies, and the world as it was -/
def eX (D : va_G) (A : Nat → Prop) (s : State) (g : GH) (H : Heap) (locs : List Loc) (E : String) (q9 : Nat) (ce : Cell) (n' : Nat) : Prop := Wd D A s g n' H locs ∧ H[q9]? = some ce ∧ ce.vm = .none ∧ s.vm.findClass E = some ce.cls
section JX
variable {p : Program} {l : Launch} {e : Env} {R : Room} {s : State} {m : MethodId} {args : Array Value} {below : List Frame} {meth : Method} {c : Code} {H : Heap} {locs : List Loc} {cells slots : Nat} {Q : State → Prop}
variable {cc : ByteArray} {pc : Nat} {ls : Array Slot} {rest : List Value} {D : va_G} {T N : Nat → Nat} {A : Nat → Prop} {g : GH} {n nL : Nat} {own : String}
theorem jx_keep (hX : Wd D A s g n H locs) {H1 : Heap} (h1 : H.size ≤ H1.size) (h2 : ∀ q : Nat, q < H.size → H1[q]? = H[q]?) (h3 : va_S A s.heap H1 locs) : Wd D A s g H1.size H1 locs :=
  ⟨rfl, fun a e he => (hX.2.1 a e he).kept (h2 a (hX.2.1 a e he).lt), hX.2.2.1, h3, hX.2.2.2.2⟩
theorem jx_out {g0 : GH} {n0 mc ms n' : Nat} {Qc : Array Value → State → Outcome → State → Prop} {px : String → Prop} {E : String} {q9 : Nat} {ce : Cell} (he : eX D (gA g0 n0) s g0 H locs E q9 ce n') (hout : ∀ x ∈ c.exceptionTable.toList, False) (hlocks : meth.locks = false) (hp : px E) (hc : cells ≤ mc) (hs : slots ≤ ms) :
    vx_W p l e R s m args below meth c H locs cells slots (vx_MQ below Qc (gX D g0 n0 px) args s mc ms (gA g0 n0)) (F0 m pc ls rest) q9 :=
  vx_out (fun x hx => (hout x hx).elim) hlocks he.2.1 he.2.2.1 he.2.2.2 (fun t ht _ => ⟨n', trivial, ⟨hp, (gQ_end he.1 ht).1⟩, (gQ_end he.1 ht).2⟩) he.1.2.2.2.1.2.2 hc hs
theorem jx_calli {mc ms : Nat} {st0 : List Value} {a : Array Value} {post : Int → GH → Nat → Prop} {px : String → Prop} (hX : Wd D A s g n H locs) (hr : vx_Run p l e R s m args below meth c H locs cells slots mc ms (F0 m pc ls st0) rest (gQi D g n post a) (gX D g n px) (gA g n))
    (kx : ∀ (E : String) (ce : Cell) (q9 n' : Nat) (H1 : Heap) (locs1 : List Loc), px E → n ≤ n' → eX D A s g H1 locs1 E q9 ce n' → vx_W p l e R s m args below meth c H1 locs1 (cells + mc) (slots + ms) Q (F0 m pc ls rest) q9)
    (kk : ∀ (r : Int) (g' : GH) (n' : Nat) (H1 : Heap) (locs1 : List Loc), post r g' n' → n ≤ n' → Wd D A s g' n' H1 locs1 → W p l e R s m args below meth c H1 locs1 (cells + mc) (slots + ms) Q (F0 m (pc + 3) ls (.int (iI r) :: rest))) : W p l e R s m args below meth c H locs cells slots Q (F0 m pc ls st0) :=
  vx_calli hr hX.2.2.2.1 (fun q _ h => hX.fA q h) hX.fA (fun q _ h => hX.fA q h) (fun E ce q9 u t H1 locs1 ht _ _ hB hz _ hS h1 h2 h3 => kx E ce q9 u H1 locs1 hB.1 (by rw [← hX.1, ← hB.2.1, ht]; exact hz) ⟨hX.after ht hB.2 hS, h1, h2, h3⟩) (fun r u t H1 locs1 ht _ hp hB hz _ hS => by
    obtain ⟨rfl, hp⟩ := hp
    exact kk u.1 u.2.1 u.2.2 H1 locs1 hp (by rw [← hX.1, ← hB.1, ht]; exact hz) (hX.after ht hB hS))
theorem jx_callv {mc ms : Nat} {st0 : List Value} {a : Array Value} {post : GH → Nat → Prop} {px : String → Prop} (hX : Wd D A s g n H locs) (hr : vx_Run p l e R s m args below meth c H locs cells slots mc ms (F0 m pc ls st0) rest (gQv D g n post a) (gX D g n px) (gA g n))
    (kx : ∀ (E : String) (ce : Cell) (q9 n' : Nat) (H1 : Heap) (locs1 : List Loc), px E → n ≤ n' → eX D A s g H1 locs1 E q9 ce n' → vx_W p l e R s m args below meth c H1 locs1 (cells + mc) (slots + ms) Q (F0 m pc ls rest) q9)
    (kk : ∀ (g' : GH) (n' : Nat) (H1 : Heap) (locs1 : List Loc), post g' n' → n ≤ n' → Wd D A s g' n' H1 locs1 → W p l e R s m args below meth c H1 locs1 (cells + mc) (slots + ms) Q (F0 m (pc + 3) ls rest)) : W p l e R s m args below meth c H locs cells slots Q (F0 m pc ls st0) :=
  vx_callv hr hX.2.2.2.1 (fun q _ h => hX.fA q h) hX.fA (fun q _ h => hX.fA q h) (fun E ce q9 u t H1 locs1 ht _ _ hB hz _ hS h1 h2 h3 => kx E ce q9 u H1 locs1 hB.1 (by rw [← hX.1, ← hB.2.1, ht]; exact hz) ⟨hX.after ht hB.2 hS, h1, h2, h3⟩) (fun u t H1 locs1 ht _ hp hB hz _ hS =>
    kk u.1 u.2 H1 locs1 hp (by rw [← hX.1, ← hB.1, ht]; exact hz) (hX.after ht hB hS))
theorem jx_callq {mc ms : Nat} {st0 : List Value} {a : Array Value} {post : Option Nat → GH → Nat → Prop} {px : String → Prop} (hX : Wd D A s g n H locs) (hr : vx_Run p l e R s m args below meth c H locs cells slots mc ms (F0 m pc ls st0) rest (gQq D g n post a) (gX D g n px) (gA g n))
    (kx : ∀ (E : String) (ce : Cell) (q9 n' : Nat) (H1 : Heap) (locs1 : List Loc), px E → n ≤ n' → eX D A s g H1 locs1 E q9 ce n' → vx_W p l e R s m args below meth c H1 locs1 (cells + mc) (slots + ms) Q (F0 m pc ls rest) q9)
    (kk : ∀ (r : Option Nat) (g' : GH) (n' : Nat) (H1 : Heap) (locs1 : List Loc), post r g' n' → n ≤ n' → Wd D A s g' n' H1 locs1 → W p l e R s m args below meth c H1 locs1 (cells + mc) (slots + ms) Q (F0 m (pc + 3) ls (va_rf r :: rest))) : W p l e R s m args below meth c H locs cells slots Q (F0 m pc ls st0) :=
  vx_callq hr hX.2.2.2.1 (fun q _ h => hX.fA q h) hX.fA (fun q _ h => hX.fA q h) (fun E ce q9 u t H1 locs1 ht _ _ hB hz _ hS h1 h2 h3 => kx E ce q9 u H1 locs1 hB.1 (by rw [← hX.1, ← hB.2.1, ht]; exact hz) ⟨hX.after ht hB.2 hS, h1, h2, h3⟩) (fun r u t H1 locs1 ht _ hp hB hz _ hS =>
    kk r u.1 u.2 H1 locs1 hp (by rw [← hX.1, ← hB.1, ht]; exact hz) (hX.after ht hB hS))
/-- what the machine's throw asks of the place -/
def rmX (R : Room) (rest : List Value) (cells slots : Nat) : Prop := 8 < R.frames ∧ (rest.map fun v => v.category).sum + 10240 ≤ R.locals ∧ cells + 3 ≤ R.cells ∧ slots + 410 ≤ R.slots
theorem jx_npe (hC : Ct D T N A p s m args c cc own nL) (hX : Wd D A s g n H locs) (hl0 : l.stackTraces = false) (hls : ls.size = nL) (hlocks : meth.locks = false) (hat : ∀ w ∈ vx_atN 8, w.before args s = true) (hgood : ∀ w ∈ vx_atN 8, vx_ot w = true) (hR : rmX R rest cells slots)
    (k : ∀ (H1 : Heap) (q9 : Nat) (ce : Cell) (n' : Nat), n ≤ n' → eX D A s g H1 locs "java/lang/NullPointerException" q9 ce n' → vx_W p l e R s m args below meth c H1 locs (cells + 3) (slots + 410) Q (F0 m pc ls rest) q9) : vx_NoteN p l e R s m args below meth c H locs cells slots Q (F0 m pc ls rest) :=
  vx_npe hC.x hl0 (nb := 8) hat hgood hC.Z.2.2.2.2.2.2.2.2.2.2.2.1 hC.Z.2.2.2.2.2.2.2.2.2.2.2.2.1 hX.2.2.2.1 (hls.trans hC.2.2.2.2.2.2.2.symm) (by have := hR.1; omega) hR.2.1 (by have := hR.2.2.1; omega) (by have := hR.2.2.2; omega) hlocks
    (fun H1 q9 ce h1 h2 h3 h4 h5 h6 => vx_widen (by omega) (by omega) (k H1 q9 ce H1.size (by rw [← hX.1]; exact h1) ⟨jx_keep hX h1 h2 h3, h4, h5, h6⟩))
theorem jx_vm (hC : Ct D T N A p s m args c cc own nL) (hX : Wd D A s g n H locs) (hl0 : l.stackTraces = false) (hls : ls.size = nL) (hlocks : meth.locks = false) {cls text : String} {names : List String} (hcls : Bundle.fit cls = true) (hnames : ∀ n ∈ names, Bundle.fit n = true) (hsoe : (cls == "java/lang/StackOverflowError") = false) (hoom : (cls == "java/lang/OutOfMemoryError") = false)
    (hat : ∀ w ∈ vx_atM cls names, w.before args s = true) (hgood : ∀ w ∈ vx_atM cls names, vx_ot w = true) (htext : (text == notModelled) = false) (hnb : (stringBytes (stringToUtf16 text)).size ≤ 400) (hnm : names.length ≤ 3) (hR : rmX R rest cells slots)
    (k : ∀ (H1 : Heap) (q9 : Nat) (ce : Cell) (n' : Nat), n ≤ n' → eX D A s g H1 locs cls q9 ce n' → vx_W p l e R s m args below meth c H1 locs (cells + 3) (slots + 410) Q (F0 m pc ls rest) q9) : vx_Note p l e R s m args below meth c H locs cells slots Q (F0 m pc ls rest) cls text :=
  vx_vm hC.x hl0 (nb := 400) hcls hnames hsoe hoom hat hgood hC.Z.2.2.2.2.2.2.2.2.2.2.2.1 hC.Z.2.2.2.2.2.2.2.2.2.2.2.2.1 hX.2.2.2.1 (hls.trans hC.2.2.2.2.2.2.2.symm) htext hnb (by decide) (by have := hR.1; omega) hR.2.1 (by omega) hR.2.2.1 hR.2.2.2 hlocks
    (fun H1 q9 ce h1 h2 h3 h4 h5 h6 => k H1 q9 ce H1.size (by rw [← hX.1]; exact h1) ⟨jx_keep hX h1 h2 h3, h4, h5, h6⟩)
end JX
/-- a throwing method's walk, from its start -/
theorem jx_start {l : Launch} {y : MethodName} {cc : ByteArray} {nL : Nat} {ret : Option FieldType} {rm : Room} {D : va_G} {T N : Nat → Nat} {av : List Value} {g : GH} {n mc ms : Nat} {Qc : Array Value → State → Outcome → State → Prop} {XC : String → State → State → Prop} (hy : plainName y.cls = true) (hn : (lg_sl av).length ≤ nL)
    (body : ∀ (p : Program) (e : Env) (s : State) (m : MethodId) (args : Array Value) (below : List Frame) (meth : Method) (c : Code), Ct D T N (gA g n) p s m args c cc y.cls nL → meth.sig.returnType = ret → meth.locks = false → (∀ x ∈ c.exceptionTable.toList, False) → Wd D (gA g n) s g n s.heap [] → ∀ ls : Array Slot, lv_has ls nL (lv_args 0 av) → W p l e rm s m args below meth c s.heap [] 0 0 (vx_MQ below Qc XC args s mc ms (gA g n)) (F0 m 0 ls [])) :
    vx_Met l y (ws_ y cc nL ret) rm (gPc D T N av g n) Qc XC mc ms (gA g n) := by
  refine vx_ofW (cc := cc) (maxL := nL) (ret := ret) hy rfl ?_
  intro p e s m args below meth c s₁ B hml htb hv
  obtain ⟨rfl, hsz, hP, hK, hT, hZ⟩ := hv
  have hts := atoms_spec (ws := ws_ y cc nL ret) B.pre
  have hts : ∀ w ∈ lw_all, w.before _ s = true := fun w h => hts w (List.mem_cons_of_mem _ h)
  have hl := lv_entry av (n := nL) hn
  rw [lg_entry_eq]
  exact body p e s m av.toArray below meth c ⟨B.exec, B.bytes, hts, findClass_of_methodNamed B.named, hK, hT, hZ, hml⟩ B.returns B.notSynchronized htb ⟨hsz, hP, fun a ha => Or.inl ha, va_S.rf, fun q hq => Or.inr (by rw [← hsz]; exact hq)⟩ _ hl
/-- a method with handlers that lets nothing out, its table told -/
theorem jx_startW {l : Launch} {y : MethodName} {cc : ByteArray} {nL : Nat} {ret : Option FieldType} {hh : List (Nat × Nat × Nat × Nat)} {rm : Room} {D : va_G} {T N : Nat → Nat} {av : List Value} {g : GH} {n mc ms : Nat} {Qc : Array Value → State → Outcome → State → Prop} (hy : plainName y.cls = true) (hn : (lg_sl av).length ≤ nL)
    (body : ∀ (p : Program) (e : Env) (s : State) (m : MethodId) (args : Array Value) (below : List Frame) (meth : Method) (c : Code), Ct D T N (gA g n) p s m args c cc y.cls nL → meth.sig.returnType = ret → meth.locks = false → c.exceptionTable.toList = tableOf hh → Wd D (gA g n) s g n s.heap [] → ∀ ls : Array Slot, lv_has ls nL (lv_args 0 av) → W p l e rm s m args below meth c s.heap [] 0 0 (MQ below Qc args s mc ms (gA g n)) (F0 m 0 ls [])) :
    Met l y (wsW_ y cc nL ret hh) rm (gPc D T N av g n) Qc mc ms (gA g n) := by
  refine va_MetW (cc := cc) (maxL := nL) (ret := ret) (hh := hh) hy rfl ?_
  intro p e s m args below meth c s₁ B hml hv
  obtain ⟨rfl, hsz, hP, hK, hT, hZ⟩ := hv
  have hts0 := atoms_spec (ws := wsW_ y cc nL ret hh) B.pre
  have htb := vx_table (x := y) B (hts0 _ List.mem_cons_self)
  have hts : ∀ w ∈ lw_all, w.before _ s = true := fun w h => hts0 w (List.mem_cons_of_mem _ h)
  have hl := lv_entry av (n := nL) hn
  rw [lg_entry_eq]
  exact body p e s m av.toArray below meth c ⟨B.exec, B.bytes, hts, findClass_of_methodNamed B.named, hK, hT, hZ, hml⟩ B.returns B.notSynchronized htb ⟨hsz, hP, fun a ha => Or.inl ha, va_S.rf, fun q hq => Or.inr (by rw [← hsz]; exact hq)⟩ _ hl
