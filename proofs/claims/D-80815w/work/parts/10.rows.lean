/-! ROWS over the world as a map -/
theorem TWx.same {u U : State} (h : u.vm = U.vm) (hT : TWx u) : TWx U := by
  refine ⟨fun w hw hn => ?_, fun q hq => va_Nc.moved (by rw [h]; exact Vm.Alike.refl _) (hT.2 q hq)⟩
  have h1 := hT.1 w hw hn
  cases w with
  | fieldLinkNest a i b n d h => exact va_tabs rfl (by assumption) h1
  | methodLinkNest a i x h => exact va_tabs rfl (by assumption) h1
  | castable C T => exact va_tabs rfl (by assumption) h1
  | declares x => exact va_tabs rfl (by assumption) h1
  | arrayOver ty =>
    cases ty with
    | object C => exact va_AO.moved (by rw [h]; exact Vm.Alike.refl _) h1
    | array t => exact aOA_moved (by rw [h]; exact Vm.Alike.refl _) h1
    | _ => exact absurd hn (by simp [nestW])
  | _ => exact absurd hn (by simp [nestW])
def gPc (D : va_G) (T N : Nat → Nat) (av : List Value) (g : GH) (n : Nat) : Array Value → State → Prop := va_Pc av (fun U => U.heap.size = n ∧ gP D g U.heap ∧ va_K D CL (TY T) U ∧ TWx U ∧ SZ N (gA g n) U U.heap)
def gB (D : va_G) (g : GH) (n : Nat) (g' : GH) (n' : Nat) (t : State) : Prop := t.heap.size = n' ∧ gP D g' t.heap ∧ ∀ a, g' a ≠ none → gA g n a
def gQi (D : va_G) (g : GH) (n : Nat) (post : Int → GH → Nat → Prop) : Array Value → State → Outcome → State → Prop := va_Qi (fun (r : Int32) (u : Int × GH × Nat) => r = iI u.1 ∧ post u.1 u.2.1 u.2.2) (fun u t => gB D g n u.2.1 u.2.2 t) (gA g n)
def gQl (D : va_G) (g : GH) (n : Nat) (post : Int → GH → Nat → Prop) : Array Value → State → Outcome → State → Prop := va_Ql (fun (r : Int64) (u : Int × GH × Nat) => r = lI u.1 ∧ post u.1 u.2.1 u.2.2) (fun u t => gB D g n u.2.1 u.2.2 t) (gA g n)
def gQv (D : va_G) (g : GH) (n : Nat) (post : GH → Nat → Prop) : Array Value → State → Outcome → State → Prop := va_Qv (fun (u : GH × Nat) => post u.1 u.2) (fun u t => gB D g n u.1 u.2 t) (gA g n)
def gQq (D : va_G) (g : GH) (n : Nat) (post : Option Nat → GH → Nat → Prop) : Array Value → State → Outcome → State → Prop := va_Qq (fun (r : Option Nat) (u : GH × Nat) => post r u.1 u.2) (fun u t => gB D g n u.1 u.2 t) (gA g n)
theorem gPc_blind {D : va_G} {T N : Nat → Nat} {av : List Value} {g : GH} {n : Nat} : FrameBlind (gPc D T N av g n) := by
  intro a U fr mk q
  obtain ⟨q0, q1, qP, qK, qT, qZ⟩ := q
  exact ⟨q0, q1, qP, va_K.moved (u := U) (U := U.calling fr mk a) (Vm.Alike.refl U.vm) qK, TWx.same (u := U) (U := U.calling fr mk a) rfl qT, SZ.moved (u := U) (U := U.calling fr mk a) (Vm.Alike.refl U.vm) qZ⟩
section JR
variable {p : Program} {l : Launch} {e : Env} {R : Room} {s : State} {m : MethodId} {args : Array Value} {below : List Frame} {meth : Method} {c : Code} {H : Heap} {locs : List Loc} {cells slots : Nat} {Q : State → Prop}
variable {cc : ByteArray} {pc : Nat} {ls : Array Slot} {rest : List Value} {D : va_G} {T N : Nat → Nat} {A : Nat → Prop} {g : GH} {n nL : Nat} {own : String}
theorem Ct.x (h : Ct D T N A p s m args c cc own nL) : p.tables.exec = Jvm.exec := h.1
theorem Ct.b (h : Ct D T N A p s m args c cc own nL) : c.code = cc := h.2.1
theorem Ct.ts (h : Ct D T N A p s m args c cc own nL) : ∀ w ∈ lw_all, w.before args s = true := h.2.2.1
theorem Ct.ow (h : Ct D T N A p s m args c cc own nL) : s.vm.findClass own = some m.cls := h.2.2.2.1
theorem Ct.K (h : Ct D T N A p s m args c cc own nL) : va_K D CL (TY T) s := h.2.2.2.2.1
theorem Ct.W (h : Ct D T N A p s m args c cc own nL) : TWx s := h.2.2.2.2.2.1
theorem Ct.Z (h : Ct D T N A p s m args c cc own nL) : SZ N A s s.heap := h.2.2.2.2.2.2.1
theorem Ct.ml (h : Ct D T N A p s m args c cc own nL) : c.maxLocals = nL := h.2.2.2.2.2.2.2
theorem Ct.fix (h : Ct D T N A p s m args c cc own nL) : CallFix p m c cc nL s args lw_all own := ⟨h.x, h.b, h.ml, h.ow, h.ts⟩
/-- the statics now -/
theorem Ct.now (h : Ct D T N A p s m args c cc own nL) (hX : Wd D A s g n H locs) : SZ N A s H := h.Z.kept hX.2.2.2.1.2.1
theorem Ct.sub (h : Ct D T N A p s m args c cc own nL) (hX : Wd D A s g n H locs) : SZ N (gA g n) s H := (h.now hX).narrowH fun q hq hg => by
  rcases hg with hg | hg
  · exact hX.2.2.1 q hg
  · exact absurd hq (by rw [hX.1]; exact Nat.not_lt.mpr hg)
/-! constants -/
theorem j_iconst (hC : Ct D T N A p s m args c cc own nL) {z : Int} (hdg : decode cc pc = .ok (.iconst z, 1)) (k : W p l e R s m args below meth c H locs cells slots Q (F0 m (pc + 1) ls (.int (iI z) :: rest))) : W p l e R s m args below meth c H locs cells slots Q (F0 m pc ls rest) :=
  lv_iconst hC.x hC.b hdg rfl k
theorem j_bipush (hC : Ct D T N A p s m args c cc own nL) {z : Int} (hdg : decode cc pc = .ok (.bipush z, 2)) (hz : -128 ≤ z ∧ z ≤ 127) (k : W p l e R s m args below meth c H locs cells slots Q (F0 m (pc + 2) ls (.int (iI z) :: rest))) : W p l e R s m args below meth c H locs cells slots Q (F0 m pc ls rest) :=
  lv_bipush hC.x hC.b hdg (by
    apply Int32.toInt_inj.mp
    rw [Int8.toInt_toInt32, iI_toInt (by omega) (by omega), Int8.toInt_ofInt_of_le (by omega) (by omega)]) k
theorem j_sipush (hC : Ct D T N A p s m args c cc own nL) {z : Int} (hdg : decode cc pc = .ok (.sipush z, 3)) (hz : -32768 ≤ z ∧ z ≤ 32767) (k : W p l e R s m args below meth c H locs cells slots Q (F0 m (pc + 3) ls (.int (iI z) :: rest))) : W p l e R s m args below meth c H locs cells slots Q (F0 m pc ls rest) :=
  lv_sipush hC.x hC.b hdg (by
    apply Int32.toInt_inj.mp
    rw [Int16.toInt_toInt32, iI_toInt (by omega) (by omega), Int16.toInt_ofInt_of_le (by omega) (by omega)]) k
theorem j_lconst (hC : Ct D T N A p s m args c cc own nL) {z : Fin 2} {w : Int} (hdg : decode cc pc = .ok (.lconst z, 1)) (hw : (z : Nat) = w) (k : W p l e R s m args below meth c H locs cells slots Q (F0 m (pc + 1) ls (.long (lI w) :: rest))) : W p l e R s m args below meth c H locs cells slots Q (F0 m pc ls rest) :=
  lv_lconst hC.x hC.b hdg (by rw [← hw]; exact Int64.ofInt_eq_ofNat.symm) k
theorem j_ldc (hC : Ct D T N A p s m args c cc own nL) {i : Nat} {v : Int32} {z : Int} (hq : (Jvm.Cond.constant own i v) ∈ lw_all) (hdg : decode cc pc = .ok (.ldc i, 2)) (hz : v = iI z) (k : W p l e R s m args below meth c H locs cells slots Q (F0 m (pc + 2) ls (.int (iI z) :: rest))) : W p l e R s m args below meth c H locs cells slots Q (F0 m pc ls rest) :=
  lv_ldc hC.x hC.b hC.ow (hC.ts _ hq) hdg (hz ▸ k)
theorem j_ldc2 (hC : Ct D T N A p s m args c cc own nL) {i : Nat} {v : Int64} {z : Int} (hq : (Jvm.Cond.constantLong own i v) ∈ lw_all) (hdg : decode cc pc = .ok (.ldc2_w i, 3)) (hz : v = lI z) (k : W p l e R s m args below meth c H locs cells slots Q (F0 m (pc + 3) ls (.long (lI z) :: rest))) : W p l e R s m args below meth c H locs cells slots Q (F0 m pc ls rest) :=
  lv_ldc2 hC.x hC.b hC.ow (hC.ts _ hq) hdg (hz ▸ k)
/-! arithmetic -/
theorem j_iinc (hC : Ct D T N A p s m args c cc own nL) {i nl k : Nat} {z a : Int} {lv lv' : List (Nat × Value)} (hdg : decode cc pc = .ok (.iinc i z, 3)) (h : lv_has ls nl lv) (hk : lv[k]? = some (i, .int (iI a))) (hn : i < nl) (hl : (i, Value.int (iI (a + z))) :: lv.filter (fun q => !(q.1 == i) && !(q.1 + 1 == i && q.2.category == 2)) = lv')
    (kk : ∀ ls' : Array Slot, lv_has ls' nl lv' → W p l e R s m args below meth c H locs cells slots Q (F0 m (pc + 3) ls' rest)) : W p l e R s m args below meth c H locs cells slots Q (F0 m pc ls rest) :=
  lv_iinc (v := iI (a + z)) hC.x hC.b hdg h hk (iI_add a z) hn hl kk
theorem j_iadd (hC : Ct D T N A p s m args c cc own nL) {a b : Int} (hdg : decode cc pc = .ok (.iadd, 1)) (k : W p l e R s m args below meth c H locs cells slots Q (F0 m (pc + 1) ls (.int (iI (a + b)) :: rest))) : W p l e R s m args below meth c H locs cells slots Q (F0 m pc ls (.int (iI b) :: .int (iI a) :: rest)) :=
  lv_iadd hC.x hC.b hdg (by rw [iI_add]; exact k)
theorem j_isub (hC : Ct D T N A p s m args c cc own nL) {a b : Int} (hdg : decode cc pc = .ok (.isub, 1)) (k : W p l e R s m args below meth c H locs cells slots Q (F0 m (pc + 1) ls (.int (iI (a - b)) :: rest))) : W p l e R s m args below meth c H locs cells slots Q (F0 m pc ls (.int (iI b) :: .int (iI a) :: rest)) :=
  lv_isub hC.x hC.b hdg (by rw [iI_sub]; exact k)
theorem j_imul (hC : Ct D T N A p s m args c cc own nL) {a b : Int} (hdg : decode cc pc = .ok (.imul, 1)) (k : W p l e R s m args below meth c H locs cells slots Q (F0 m (pc + 1) ls (.int (iI (a * b)) :: rest))) : W p l e R s m args below meth c H locs cells slots Q (F0 m pc ls (.int (iI b) :: .int (iI a) :: rest)) :=
  lv_imul hC.x hC.b hdg (by rw [iI_mul]; exact k)
theorem iI_div {a b : Int} (h : 0 ≤ a ∧ a ≤ 2147483647 ∧ 0 < b ∧ b ≤ 2147483647) : iI a / iI b = iI (a / b) := by
  unfold iI
  rw [← Int.tdiv_eq_ediv_of_nonneg h.1, Int32.ofInt_tdiv] <;> (try show _ ≤ _) <;> first | (show (-2147483648 : Int) ≤ _; omega) | (show _ ≤ (2147483647 : Int); omega)
theorem iI_rem {a b : Int} (h : 0 ≤ a ∧ a ≤ 2147483647 ∧ 0 < b ∧ b ≤ 2147483647) : iI a - iI a / iI b * iI b = iI (a % b) := by
  rw [iI_div h, iI_mul, iI_sub]
  congr 1
  have := Int.emod_add_mul_ediv a b
  rw [Int.mul_comm] at this
  omega
theorem lI_div {a b : Int} (h : 0 ≤ a ∧ a ≤ 9223372036854775807 ∧ 0 < b ∧ b ≤ 9223372036854775807) : lI a / lI b = lI (a / b) := by
  unfold lI
  rw [← Int.tdiv_eq_ediv_of_nonneg h.1, Int64.ofInt_tdiv] <;> (try show _ ≤ _) <;> first | (show (-9223372036854775808 : Int) ≤ _; omega) | (show _ ≤ (9223372036854775807 : Int); omega)
theorem lI_rem {a b : Int} (h : 0 ≤ a ∧ a ≤ 9223372036854775807 ∧ 0 < b ∧ b ≤ 9223372036854775807) : lI a - lI a / lI b * lI b = lI (a % b) := by
  rw [lI_div h, lI_mul, lI_sub]
  congr 1
  have := Int.emod_add_mul_ediv a b
  rw [Int.mul_comm] at this
  omega
theorem j_idiv (hC : Ct D T N A p s m args c cc own nL) {a b : Int} (hdg : decode cc pc = .ok (.idiv, 1)) (h : 0 ≤ a ∧ a ≤ 2147483647 ∧ 0 < b ∧ b ≤ 2147483647) (k : W p l e R s m args below meth c H locs cells slots Q (F0 m (pc + 1) ls (.int (iI (a / b)) :: rest))) : W p l e R s m args below meth c H locs cells slots Q (F0 m pc ls (.int (iI b) :: .int (iI a) :: rest)) :=
  lv_idiv hC.x hC.b hdg (fun q => by have := (iI_eq (a := b) (b := 0) (by omega)).mp q; omega) (by rw [iI_div h]; exact k)
theorem j_irem (hC : Ct D T N A p s m args c cc own nL) {a b : Int} (hdg : decode cc pc = .ok (.irem, 1)) (h : 0 ≤ a ∧ a ≤ 2147483647 ∧ 0 < b ∧ b ≤ 2147483647) (k : W p l e R s m args below meth c H locs cells slots Q (F0 m (pc + 1) ls (.int (iI (a % b)) :: rest))) : W p l e R s m args below meth c H locs cells slots Q (F0 m pc ls (.int (iI b) :: .int (iI a) :: rest)) :=
  lv_irem hC.x hC.b hdg (fun q => by have := (iI_eq (a := b) (b := 0) (by omega)).mp q; omega) (by rw [iI_rem h]; exact k)
theorem j_ldiv (hC : Ct D T N A p s m args c cc own nL) {a b : Int} (hdg : decode cc pc = .ok (.ldiv, 1)) (h : 0 ≤ a ∧ a ≤ 9223372036854775807 ∧ 0 < b ∧ b ≤ 9223372036854775807) (k : W p l e R s m args below meth c H locs cells slots Q (F0 m (pc + 1) ls (.long (lI (a / b)) :: rest))) : W p l e R s m args below meth c H locs cells slots Q (F0 m pc ls (.long (lI b) :: .long (lI a) :: rest)) :=
  lv_ldiv hC.x hC.b hdg (fun q => by have := (lI_eq (a := b) (b := 0) (by omega)).mp q; omega) (by rw [lI_div h]; exact k)
theorem j_lrem (hC : Ct D T N A p s m args c cc own nL) {a b : Int} (hdg : decode cc pc = .ok (.lrem, 1)) (h : 0 ≤ a ∧ a ≤ 9223372036854775807 ∧ 0 < b ∧ b ≤ 9223372036854775807) (k : W p l e R s m args below meth c H locs cells slots Q (F0 m (pc + 1) ls (.long (lI (a % b)) :: rest))) : W p l e R s m args below meth c H locs cells slots Q (F0 m pc ls (.long (lI b) :: .long (lI a) :: rest)) :=
  lv_lrem hC.x hC.b hdg (fun q => by have := (lI_eq (a := b) (b := 0) (by omega)).mp q; omega) (by rw [lI_rem h]; exact k)
theorem j_ladd (hC : Ct D T N A p s m args c cc own nL) {a b : Int} (hdg : decode cc pc = .ok (.ladd, 1)) (k : W p l e R s m args below meth c H locs cells slots Q (F0 m (pc + 1) ls (.long (lI (a + b)) :: rest))) : W p l e R s m args below meth c H locs cells slots Q (F0 m pc ls (.long (lI b) :: .long (lI a) :: rest)) :=
  lv_ladd hC.x hC.b hdg (by rw [lI_add]; exact k)
theorem j_lsub (hC : Ct D T N A p s m args c cc own nL) {a b : Int} (hdg : decode cc pc = .ok (.lsub, 1)) (k : W p l e R s m args below meth c H locs cells slots Q (F0 m (pc + 1) ls (.long (lI (a - b)) :: rest))) : W p l e R s m args below meth c H locs cells slots Q (F0 m pc ls (.long (lI b) :: .long (lI a) :: rest)) :=
  lv_lsub hC.x hC.b hdg (by rw [lI_sub]; exact k)
theorem j_lmul (hC : Ct D T N A p s m args c cc own nL) {a b : Int} (hdg : decode cc pc = .ok (.lmul, 1)) (k : W p l e R s m args below meth c H locs cells slots Q (F0 m (pc + 1) ls (.long (lI (a * b)) :: rest))) : W p l e R s m args below meth c H locs cells slots Q (F0 m pc ls (.long (lI b) :: .long (lI a) :: rest)) :=
  lv_lmul hC.x hC.b hdg (by rw [lI_mul]; exact k)
theorem j_i2l (hC : Ct D T N A p s m args c cc own nL) {a : Int} (hdg : decode cc pc = .ok (.i2l, 1)) (h : -2147483648 ≤ a ∧ a ≤ 2147483647) (k : W p l e R s m args below meth c H locs cells slots Q (F0 m (pc + 1) ls (.long (lI a) :: rest))) : W p l e R s m args below meth c H locs cells slots Q (F0 m pc ls (.int (iI a) :: rest)) :=
  lv_i2l hC.x hC.b hdg (iI_l h.1 h.2) k
theorem j_l2i (hC : Ct D T N A p s m args c cc own nL) {a : Int} (hdg : decode cc pc = .ok (.l2i, 1)) (k : W p l e R s m args below meth c H locs cells slots Q (F0 m (pc + 1) ls (.int (iI a) :: rest))) : W p l e R s m args below meth c H locs cells slots Q (F0 m pc ls (.long (lI a) :: rest)) :=
  lv_l2i hC.x hC.b hdg (lI_i a) k
/-- the number on top, by an equal one -/
theorem j_eqi {a b : Int} (h : a = b) (k : W p l e R s m args below meth c H locs cells slots Q (F0 m pc ls (.int (iI b) :: rest))) : W p l e R s m args below meth c H locs cells slots Q (F0 m pc ls (.int (iI a) :: rest)) := h ▸ k
theorem j_eql {a b : Int} (h : a = b) (k : W p l e R s m args below meth c H locs cells slots Q (F0 m pc ls (.long (lI b) :: rest))) : W p l e R s m args below meth c H locs cells slots Q (F0 m pc ls (.long (lI a) :: rest)) := h ▸ k
/-! branches -/
theorem j_goto (hC : Ct D T N A p s m args c cc own nL) {off : Int} (tgt : Nat) (hdg : decode cc pc = .ok (.goto off, 3)) (ht : (pc : Int) + off = (tgt : Int)) (k : W p l e R s m args below meth c H locs cells slots Q (F0 m tgt ls rest)) : W p l e R s m args below meth c H locs cells slots Q (F0 m pc ls rest) :=
  lv_goto (tgt := tgt) hC.x hC.b hdg ht k
theorem j_if_eq (hC : Ct D T N A p s m args c cc own nL) {a off : Int} (tgt : Nat) (hdg : decode cc pc = .ok (.ifCond .eq off, 3)) (ht : (pc : Int) + off = (tgt : Int)) (h : -2147483648 ≤ a ∧ a ≤ 2147483647)
    (kt : a = 0 → W p l e R s m args below meth c H locs cells slots Q (F0 m tgt ls rest)) (kf : ¬ a = 0 → W p l e R s m args below meth c H locs cells slots Q (F0 m (pc + 3) ls rest)) : W p l e R s m args below meth c H locs cells slots Q (F0 m pc ls (.int (iI a) :: rest)) :=
  lv_if_eq (tgt := tgt) hC.x hC.b hdg ht (fun q => kt ((iI_eq (b := 0) (by omega)).mp q)) (fun q => kf (fun z => q ((iI_eq (b := 0) (by omega)).mpr z)))
theorem j_if_ne (hC : Ct D T N A p s m args c cc own nL) {a off : Int} (tgt : Nat) (hdg : decode cc pc = .ok (.ifCond .ne off, 3)) (ht : (pc : Int) + off = (tgt : Int)) (h : -2147483648 ≤ a ∧ a ≤ 2147483647)
    (kt : ¬ a = 0 → W p l e R s m args below meth c H locs cells slots Q (F0 m tgt ls rest)) (kf : a = 0 → W p l e R s m args below meth c H locs cells slots Q (F0 m (pc + 3) ls rest)) : W p l e R s m args below meth c H locs cells slots Q (F0 m pc ls (.int (iI a) :: rest)) :=
  lv_if_ne (tgt := tgt) hC.x hC.b hdg ht (fun q => kt (fun z => q ((iI_eq (b := 0) (by omega)).mpr z))) (fun q => kf ((iI_eq (b := 0) (by omega)).mp q))
theorem j_if_lt (hC : Ct D T N A p s m args c cc own nL) {a off : Int} (tgt : Nat) (hdg : decode cc pc = .ok (.ifCond .lt off, 3)) (ht : (pc : Int) + off = (tgt : Int)) (h : -2147483648 ≤ a ∧ a ≤ 2147483647)
    (kt : a < 0 → W p l e R s m args below meth c H locs cells slots Q (F0 m tgt ls rest)) (kf : ¬ a < 0 → W p l e R s m args below meth c H locs cells slots Q (F0 m (pc + 3) ls rest)) : W p l e R s m args below meth c H locs cells slots Q (F0 m pc ls (.int (iI a) :: rest)) :=
  lv_if_lt (tgt := tgt) hC.x hC.b hdg ht (fun q => kt ((iI_lt (b := 0) (by omega)).mp q)) (fun q => kf (fun z => q ((iI_lt (b := 0) (by omega)).mpr z)))
theorem j_if_ge (hC : Ct D T N A p s m args c cc own nL) {a off : Int} (tgt : Nat) (hdg : decode cc pc = .ok (.ifCond .ge off, 3)) (ht : (pc : Int) + off = (tgt : Int)) (h : -2147483648 ≤ a ∧ a ≤ 2147483647)
    (kt : 0 ≤ a → W p l e R s m args below meth c H locs cells slots Q (F0 m tgt ls rest)) (kf : ¬ 0 ≤ a → W p l e R s m args below meth c H locs cells slots Q (F0 m (pc + 3) ls rest)) : W p l e R s m args below meth c H locs cells slots Q (F0 m pc ls (.int (iI a) :: rest)) :=
  lv_if_ge (tgt := tgt) hC.x hC.b hdg ht (fun q => kt ((iI_le (a := 0) (by omega)).mp q)) (fun q => kf (fun z => q ((iI_le (a := 0) (by omega)).mpr z)))
theorem j_if_gt (hC : Ct D T N A p s m args c cc own nL) {a off : Int} (tgt : Nat) (hdg : decode cc pc = .ok (.ifCond .gt off, 3)) (ht : (pc : Int) + off = (tgt : Int)) (h : -2147483648 ≤ a ∧ a ≤ 2147483647)
    (kt : 0 < a → W p l e R s m args below meth c H locs cells slots Q (F0 m tgt ls rest)) (kf : ¬ 0 < a → W p l e R s m args below meth c H locs cells slots Q (F0 m (pc + 3) ls rest)) : W p l e R s m args below meth c H locs cells slots Q (F0 m pc ls (.int (iI a) :: rest)) :=
  lv_if_gt (tgt := tgt) hC.x hC.b hdg ht (fun q => kt ((iI_lt (a := 0) (by omega)).mp q)) (fun q => kf (fun z => q ((iI_lt (a := 0) (by omega)).mpr z)))
theorem j_if_le (hC : Ct D T N A p s m args c cc own nL) {a off : Int} (tgt : Nat) (hdg : decode cc pc = .ok (.ifCond .le off, 3)) (ht : (pc : Int) + off = (tgt : Int)) (h : -2147483648 ≤ a ∧ a ≤ 2147483647)
    (kt : a ≤ 0 → W p l e R s m args below meth c H locs cells slots Q (F0 m tgt ls rest)) (kf : ¬ a ≤ 0 → W p l e R s m args below meth c H locs cells slots Q (F0 m (pc + 3) ls rest)) : W p l e R s m args below meth c H locs cells slots Q (F0 m pc ls (.int (iI a) :: rest)) :=
  lv_if_le (tgt := tgt) hC.x hC.b hdg ht (fun q => kt ((iI_le (b := 0) (by omega)).mp q)) (fun q => kf (fun z => q ((iI_le (b := 0) (by omega)).mpr z)))
theorem j_icmp_eq (hC : Ct D T N A p s m args c cc own nL) {a b off : Int} (tgt : Nat) (hdg : decode cc pc = .ok (.if_icmp .eq off, 3)) (ht : (pc : Int) + off = (tgt : Int)) (h : -2147483648 ≤ a ∧ a ≤ 2147483647 ∧ -2147483648 ≤ b ∧ b ≤ 2147483647)
    (kt : a = b → W p l e R s m args below meth c H locs cells slots Q (F0 m tgt ls rest)) (kf : ¬ a = b → W p l e R s m args below meth c H locs cells slots Q (F0 m (pc + 3) ls rest)) : W p l e R s m args below meth c H locs cells slots Q (F0 m pc ls (.int (iI b) :: .int (iI a) :: rest)) :=
  lv_icmp_eq (tgt := tgt) hC.x hC.b hdg ht (fun q => kt ((iI_eq h).mp q)) (fun q => kf (fun z => q ((iI_eq h).mpr z)))
theorem j_icmp_ne (hC : Ct D T N A p s m args c cc own nL) {a b off : Int} (tgt : Nat) (hdg : decode cc pc = .ok (.if_icmp .ne off, 3)) (ht : (pc : Int) + off = (tgt : Int)) (h : -2147483648 ≤ a ∧ a ≤ 2147483647 ∧ -2147483648 ≤ b ∧ b ≤ 2147483647)
    (kt : ¬ a = b → W p l e R s m args below meth c H locs cells slots Q (F0 m tgt ls rest)) (kf : a = b → W p l e R s m args below meth c H locs cells slots Q (F0 m (pc + 3) ls rest)) : W p l e R s m args below meth c H locs cells slots Q (F0 m pc ls (.int (iI b) :: .int (iI a) :: rest)) :=
  lv_icmp_ne (tgt := tgt) hC.x hC.b hdg ht (fun q => kt (fun z => q ((iI_eq h).mpr z))) (fun q => kf ((iI_eq h).mp q))
theorem j_icmp_lt (hC : Ct D T N A p s m args c cc own nL) {a b off : Int} (tgt : Nat) (hdg : decode cc pc = .ok (.if_icmp .lt off, 3)) (ht : (pc : Int) + off = (tgt : Int)) (h : -2147483648 ≤ a ∧ a ≤ 2147483647 ∧ -2147483648 ≤ b ∧ b ≤ 2147483647)
    (kt : a < b → W p l e R s m args below meth c H locs cells slots Q (F0 m tgt ls rest)) (kf : ¬ a < b → W p l e R s m args below meth c H locs cells slots Q (F0 m (pc + 3) ls rest)) : W p l e R s m args below meth c H locs cells slots Q (F0 m pc ls (.int (iI b) :: .int (iI a) :: rest)) :=
  lv_icmp_lt (tgt := tgt) hC.x hC.b hdg ht (fun q => kt ((iI_lt h).mp q)) (fun q => kf (fun z => q ((iI_lt h).mpr z)))
theorem j_icmp_ge (hC : Ct D T N A p s m args c cc own nL) {a b off : Int} (tgt : Nat) (hdg : decode cc pc = .ok (.if_icmp .ge off, 3)) (ht : (pc : Int) + off = (tgt : Int)) (h : -2147483648 ≤ a ∧ a ≤ 2147483647 ∧ -2147483648 ≤ b ∧ b ≤ 2147483647)
    (kt : b ≤ a → W p l e R s m args below meth c H locs cells slots Q (F0 m tgt ls rest)) (kf : ¬ b ≤ a → W p l e R s m args below meth c H locs cells slots Q (F0 m (pc + 3) ls rest)) : W p l e R s m args below meth c H locs cells slots Q (F0 m pc ls (.int (iI b) :: .int (iI a) :: rest)) :=
  lv_icmp_ge (tgt := tgt) hC.x hC.b hdg ht (fun q => kt ((iI_le (by omega)).mp q)) (fun q => kf (fun z => q ((iI_le (by omega)).mpr z)))
theorem j_icmp_gt (hC : Ct D T N A p s m args c cc own nL) {a b off : Int} (tgt : Nat) (hdg : decode cc pc = .ok (.if_icmp .gt off, 3)) (ht : (pc : Int) + off = (tgt : Int)) (h : -2147483648 ≤ a ∧ a ≤ 2147483647 ∧ -2147483648 ≤ b ∧ b ≤ 2147483647)
    (kt : b < a → W p l e R s m args below meth c H locs cells slots Q (F0 m tgt ls rest)) (kf : ¬ b < a → W p l e R s m args below meth c H locs cells slots Q (F0 m (pc + 3) ls rest)) : W p l e R s m args below meth c H locs cells slots Q (F0 m pc ls (.int (iI b) :: .int (iI a) :: rest)) :=
  lv_icmp_gt (tgt := tgt) hC.x hC.b hdg ht (fun q => kt ((iI_lt (by omega)).mp q)) (fun q => kf (fun z => q ((iI_lt (by omega)).mpr z)))
theorem j_icmp_le (hC : Ct D T N A p s m args c cc own nL) {a b off : Int} (tgt : Nat) (hdg : decode cc pc = .ok (.if_icmp .le off, 3)) (ht : (pc : Int) + off = (tgt : Int)) (h : -2147483648 ≤ a ∧ a ≤ 2147483647 ∧ -2147483648 ≤ b ∧ b ≤ 2147483647)
    (kt : a ≤ b → W p l e R s m args below meth c H locs cells slots Q (F0 m tgt ls rest)) (kf : ¬ a ≤ b → W p l e R s m args below meth c H locs cells slots Q (F0 m (pc + 3) ls rest)) : W p l e R s m args below meth c H locs cells slots Q (F0 m pc ls (.int (iI b) :: .int (iI a) :: rest)) :=
  lv_icmp_le (tgt := tgt) hC.x hC.b hdg ht (fun q => kt ((iI_le h).mp q)) (fun q => kf (fun z => q ((iI_le h).mpr z)))
/-- lcmp, as a number -/
def sgn (a b : Int) : Int := if a < b then -1 else if a = b then 0 else 1
theorem sgn_cases (a b : Int) : (a < b ∧ sgn a b = -1) ∨ (a = b ∧ sgn a b = 0) ∨ (b < a ∧ sgn a b = 1) := by
  unfold sgn
  split
  · exact Or.inl ⟨‹_›, rfl⟩
  · split
    · exact Or.inr (Or.inl ⟨‹_›, rfl⟩)
    · exact Or.inr (Or.inr ⟨by omega, rfl⟩)
theorem j_lcmp (hC : Ct D T N A p s m args c cc own nL) {a b : Int} (hdg : decode cc pc = .ok (.lcmp, 1)) (h : -9223372036854775808 ≤ a ∧ a ≤ 9223372036854775807 ∧ -9223372036854775808 ≤ b ∧ b ≤ 9223372036854775807)
    (k : ∀ z : Int, (a < b ∧ z = -1) ∨ (a = b ∧ z = 0) ∨ (b < a ∧ z = 1) → W p l e R s m args below meth c H locs cells slots Q (F0 m (pc + 1) ls (.int (iI z) :: rest))) : W p l e R s m args below meth c H locs cells slots Q (F0 m pc ls (.long (lI b) :: .long (lI a) :: rest)) := by
  refine W.lcmp hC.x hC.b hdg ?_
  have e : lg_cmp (lI a) (lI b) = iI (sgn a b) := by
    unfold lg_cmp sgn
    by_cases h1 : b < a
    · rw [if_pos ((lI_lt (by omega)).mpr h1), if_neg (by omega), if_neg (by omega)]; rfl
    · rw [if_neg (fun q => h1 ((lI_lt (by omega)).mp q))]
      by_cases h2 : a = b
      · subst h2
        simp
        rfl
      · rw [if_neg (fun q => h2 ((lI_eq h).mp q)), if_pos (by omega)]; rfl
  rw [e]
  exact k _ (sgn_cases a b)
/-! fields -/
theorem j_get (hC : Ct D T N A p s m args c cc own nL) (hX : Wd D A s g n H locs) {ref C : String} {T0 : u_T} {M ci index : Nat} (hin : ∀ w ∈ u_ws C T0 M, w ∈ lw_all) (hc : CL[ci]? = some (C, T0, M)) {a : Nat} {fs : List Value} (ha : g a = some (oB ci fs)) (k : Nat) (hk : k < M) (hlink : (Cond.fieldLink own index ref (T0 k).2.1 (T0 k).2.2.1) ∈ lw_all) (hsame : (T0 k).1 = ref) {v : Value} (hv : fs[k]? = some v) (hdg : decode cc pc = .ok (.getfield index, 3))
    (kk : W p l e R s m args below meth c H locs cells slots Q (F0 m (pc + 3) ls (v :: rest))) : W p l e R s m args below meth c H locs cells slots Q (F0 m pc ls (.ref a :: rest)) :=
  va_get hC.x hC.b hC.ts hin hC.ow hC.K (hX.2.1.one ha) 0 rfl hc k hk (hC.ts _ hlink) (fun _ z => hsame ▸ z) hv hdg kk
theorem j_getN (hC : Ct D T N A p s m args c cc own nL) (hX : Wd D A s g n H locs) {ref C host : String} {T0 : u_T} {M ci index : Nat} (hin : ∀ w ∈ u_ws C T0 M, w ∈ lw_all) (hc : CL[ci]? = some (C, T0, M)) {a : Nat} {fs : List Value} (ha : g a = some (oB ci fs)) (k : Nat) (hk : k < M) (hlink : (Cond.fieldLinkNest own index ref (T0 k).2.1 (T0 k).2.2.1 host) ∈ lw_tbl) (hsame : (T0 k).1 = ref) {v : Value} (hv : fs[k]? = some v) (hdg : decode cc pc = .ok (.getfield index, 3))
    (kk : W p l e R s m args below meth c H locs cells slots Q (F0 m (pc + 3) ls (v :: rest))) : W p l e R s m args below meth c H locs cells slots Q (F0 m pc ls (.ref a :: rest)) :=
  va_getN hC.x hC.b hC.ts hin hC.ow hC.K (hX.2.1.one ha) 0 rfl hc k hk (hC.W.u hlink rfl rfl) (fun _ z => hsame ▸ z) hv hdg kk
theorem j_put (hC : Ct D T N A p s m args c cc own nL) (hX : Wd D A s g n H locs) {ref C : String} {T0 : u_T} {M ci index : Nat} (hin : ∀ w ∈ u_ws C T0 M, w ∈ lw_all) (ty0 : Nat → FieldType) (hty : ∀ k, k < M → parseFieldDescriptor (T0 k).2.2.1 = some (ty0 k)) (hnm : ∀ a, a < M → ∀ b, b < M → a ≠ b → (T0 a).2.1 ≠ (T0 b).2.1) (hc : CL[ci]? = some (C, T0, M)) {a : Nat} {fs fs' : List Value} (ha : g a = some (oB ci fs)) (k : Nat) (hk : k < M) (hlink : (Cond.fieldLink own index ref (T0 k).2.1 (T0 k).2.2.1) ∈ lw_all) (hsame : (T0 k).1 = ref) (hfin : (T0 k).2.2.2 = false) {v : Value} (hn : narrow (ty0 k) v = v) (hfit : fits (ty0 k) v = true) (hl : k < fs.length) (hfs : fs.set k v = fs')
    (hdg : decode cc pc = .ok (.putfield index, 3)) (kk : ∀ (H1 : Heap) (locs1 : List Loc), Wd D A s (va_up g a (some (oB ci fs'))) n H1 locs1 → W p l e R s m args below meth c H1 locs1 cells slots Q (F0 m (pc + 3) ls rest)) : W p l e R s m args below meth c H locs cells slots Q (F0 m pc ls (v :: .ref a :: rest)) := by
  subst hfs
  have hap := va_apart (own := own) hC.ts hin ty0 hty hnm hC.K hc
  obtain ⟨r, h1, cell, q1, q2, q3, q4⟩ := hX.2.1 _ _ ha
  have hr : r = (C, T0, M) := Option.some.inj (h1.symm.trans hc)
  subst hr
  obtain ⟨hS, hfc, kC, hkC, hkind⟩ := hC.K.1 ci _ hc
  obtain ⟨cf, kf, fi, f, hi, hsl⟩ := hS k hk
  have hlay := hC.ts _ (hin _ (u_in_lay hk))
  unfold u_lay at hlay
  rw [if_neg (by rw [hfin]; decide)] at hlay
  have hst := (u_facts hfc hkC (u_lays hC.ts hin hk) hi).1
  have h6 := u_store hfc hkC hkind hlay hi (hty k hk) hn hfit
  refine W.putK hC.x hC.b (f := f) ⟨hC.ow, hC.ts _ hlink, ⟨_, _, _, hsame ▸ hi⟩, hst⟩ (by rw [q2]; exact h6) q1 q3 (by rw [hsl]; exact k2_hasslot (q4 k hk)) rfl rfl hdg fun H' e1 e2 e3 => ?_
  rw [hsl] at e1 ⊢
  exact kk H' _ (hX.put ha ⟨_, hc, t_OB.to (V := updV (vp_V fs) k v) ⟨_, e1, q2, q3, t_set q4 hap hk v⟩ (fun j _ => vp_updV_set hl v j)⟩ e2 e3)
theorem j_putN (hC : Ct D T N A p s m args c cc own nL) (hX : Wd D A s g n H locs) {ref C host : String} {T0 : u_T} {M ci index : Nat} (hin : ∀ w ∈ u_ws C T0 M, w ∈ lw_all) (ty0 : Nat → FieldType) (hty : ∀ k, k < M → parseFieldDescriptor (T0 k).2.2.1 = some (ty0 k)) (hnm : ∀ a, a < M → ∀ b, b < M → a ≠ b → (T0 a).2.1 ≠ (T0 b).2.1) (hc : CL[ci]? = some (C, T0, M)) {a : Nat} {fs fs' : List Value} (ha : g a = some (oB ci fs)) (k : Nat) (hk : k < M) (hlink : (Cond.fieldLinkNest own index ref (T0 k).2.1 (T0 k).2.2.1 host) ∈ lw_tbl) (hsame : (T0 k).1 = ref) (hfin : (T0 k).2.2.2 = false) {v : Value} (hn : narrow (ty0 k) v = v) (hfit : fits (ty0 k) v = true) (hl : k < fs.length) (hfs : fs.set k v = fs')
    (hdg : decode cc pc = .ok (.putfield index, 3)) (kk : ∀ (H1 : Heap) (locs1 : List Loc), Wd D A s (va_up g a (some (oB ci fs'))) n H1 locs1 → W p l e R s m args below meth c H1 locs1 cells slots Q (F0 m (pc + 3) ls rest)) : W p l e R s m args below meth c H locs cells slots Q (F0 m pc ls (v :: .ref a :: rest)) := by
  subst hfs
  have hap := va_apart (own := own) hC.ts hin ty0 hty hnm hC.K hc
  obtain ⟨r, h1, cell, q1, q2, q3, q4⟩ := hX.2.1 _ _ ha
  have hr : r = (C, T0, M) := Option.some.inj (h1.symm.trans hc)
  subst hr
  obtain ⟨hS, hfc, kC, hkC, hkind⟩ := hC.K.1 ci _ hc
  obtain ⟨cf, kf, fi, f, hi, hsl⟩ := hS k hk
  have hlay := hC.ts _ (hin _ (u_in_lay hk))
  unfold u_lay at hlay
  rw [if_neg (by rw [hfin]; decide)] at hlay
  have hst := (u_facts hfc hkC (u_lays hC.ts hin hk) hi).1
  have h6 := u_store hfc hkC hkind hlay hi (hty k hk) hn hfit
  refine va_WputK hC.x hC.b (f := f) hC.ow (hC.W.u hlink rfl rfl) (hsame ▸ hi) hst (by rw [q2]; exact h6) q1 q3 (by rw [hsl]; exact k2_hasslot (q4 k hk)) rfl rfl hdg fun H' e1 e2 e3 => ?_
  rw [hsl] at e1 ⊢
  exact kk H' _ (hX.put ha ⟨_, hc, t_OB.to (V := updV (vp_V fs) k v) ⟨_, e1, q2, q3, t_set q4 hap hk v⟩ (fun j _ => vp_updV_set hl v j)⟩ e2 e3)
theorem j_putF (hC : Ct D T N A p s m args c cc own nL) (hX : Wd D A s g n H locs) {ref C : String} {T0 : u_T} {M ci index : Nat} (hin : ∀ w ∈ u_ws C T0 M, w ∈ lw_all) (ty0 : Nat → FieldType) (hty : ∀ k, k < M → parseFieldDescriptor (T0 k).2.2.1 = some (ty0 k)) (hnm : ∀ a, a < M → ∀ b, b < M → a ≠ b → (T0 a).2.1 ≠ (T0 b).2.1) (hc : CL[ci]? = some (C, T0, M)) {a : Nat} {fs fs' : List Value} (ha : g a = some (oB ci fs)) (k : Nat) (hk : k < M) (hlink : (Cond.fieldLink own index ref (T0 k).2.1 (T0 k).2.2.1) ∈ lw_all) (hsame : (T0 k).1 = ref) (hfin : (T0 k).2.2.2 = true) (hinit : meth.name = "<init>") (hdecl : (T0 k).1 = own) {v : Value} (hn : narrow (ty0 k) v = v) (hfit : fits (ty0 k) v = true) (hl : k < fs.length) (hfs : fs.set k v = fs')
    (hdg : decode cc pc = .ok (.putfield index, 3)) (kk : ∀ (H1 : Heap) (locs1 : List Loc), Wd D A s (va_up g a (some (oB ci fs'))) n H1 locs1 → W p l e R s m args below meth c H1 locs1 cells slots Q (F0 m (pc + 3) ls rest)) : W p l e R s m args below meth c H locs cells slots Q (F0 m pc ls (v :: .ref a :: rest)) := by
  subst hfs
  have hap := va_apart (own := own) hC.ts hin ty0 hty hnm hC.K hc
  obtain ⟨r, h1, cell, q1, q2, q3, q4⟩ := hX.2.1 _ _ ha
  have hr : r = (C, T0, M) := Option.some.inj (h1.symm.trans hc)
  subst hr
  obtain ⟨hS, hfc, kC, hkC, hkind⟩ := hC.K.1 ci _ hc
  obtain ⟨cf, kf, fi, f, hi, hsl⟩ := hS k hk
  have hlay := hC.ts _ (hin _ (u_in_lay hk))
  unfold u_lay at hlay
  rw [if_pos hfin] at hlay
  have hst := (u_facts hfc hkC (u_lays hC.ts hin hk) hi).1
  have hcf : m.cls = cf := by
    obtain ⟨_, _, c', _, _, _, -, -, hf', -, -, -, hown2, -⟩ := Cond.laysFinal_spec hlay
    have e1 : c' = cf := by have := hi.symm.trans hf'; simp at this; exact this.1.symm
    rw [hdecl] at hown2
    rw [← e1]; exact Option.some.inj (hC.ow.symm.trans hown2)
  have h6 := u_fits hfc hkC hkind (Or.inr hlay) hi (hty k hk) hn hfit
  refine W.putFinK hC.x hC.b hC.ow (hC.ts _ hlink) (hsame ▸ hi) hst hcf hinit (by rw [q2]; exact h6) q1 q3 (by rw [hsl]; exact k2_hasslot (q4 k hk)) rfl rfl hdg fun H' e1 e2 e3 => ?_
  rw [hsl] at e1 ⊢
  exact kk H' _ (hX.put ha ⟨_, hc, t_OB.to (V := updV (vp_V fs) k v) ⟨_, e1, q2, q3, t_set q4 hap hk v⟩ (fun j _ => vp_updV_set hl v j)⟩ e2 e3)
/-! arrays: loads -/
theorem j_iald (hC : Ct D T N A p s m args c cc own nL) (hX : Wd D A s g n H locs) {a k : Nat} {f : Int → Int} (ha : g a = some (aI T 0 k f)) {i : Int} (h : 0 ≤ i ∧ i < k ∧ (k : Int) ≤ 2147483647) (hdg : decode cc pc = .ok (.iaload, 1)) (kk : W p l e R s m args below meth c H locs cells slots Q (F0 m (pc + 1) ls (.int (iI (f i)) :: rest))) : W p l e R s m args below meth c H locs cells slots Q (F0 m pc ls (.int (iI i) :: .ref a :: rest)) :=
  va_iald hC.x hC.b hC.K (hX.2.1.one ha) 0 0 rfl rfl (iI_in (by omega)) hdg (by rw [vI_at f (by omega)]; exact kk)
theorem j_zald (hC : Ct D T N A p s m args c cc own nL) (hX : Wd D A s g n H locs) {a k : Nat} {f : Int → Int} (ha : g a = some (aI T 2 k f)) {i : Int} (h : 0 ≤ i ∧ i < k ∧ (k : Int) ≤ 2147483647) (hdg : decode cc pc = .ok (.baload, 1)) (kk : W p l e R s m args below meth c H locs cells slots Q (F0 m (pc + 1) ls (.int (iI (f i)) :: rest))) : W p l e R s m args below meth c H locs cells slots Q (F0 m pc ls (.int (iI i) :: .ref a :: rest)) :=
  va_zald hC.x hC.b hC.K (hX.2.1.one ha) 0 2 rfl rfl (iI_in (by omega)) hdg (by rw [vI_at f (by omega)]; exact kk)
theorem j_bald (hC : Ct D T N A p s m args c cc own nL) (hX : Wd D A s g n H locs) {a k : Nat} {f : Int → Int} (ha : g a = some (aI T 3 k f)) {i : Int} (h : 0 ≤ i ∧ i < k ∧ (k : Int) ≤ 2147483647) (hdg : decode cc pc = .ok (.baload, 1)) (kk : W p l e R s m args below meth c H locs cells slots Q (F0 m (pc + 1) ls (.int (iI (f i)) :: rest))) : W p l e R s m args below meth c H locs cells slots Q (F0 m pc ls (.int (iI i) :: .ref a :: rest)) :=
  va_bald hC.x hC.b hC.K (hX.2.1.one ha) 0 3 rfl rfl (iI_in (by omega)) hdg (by rw [vI_at f (by omega)]; exact kk)
theorem j_sald (hC : Ct D T N A p s m args c cc own nL) (hX : Wd D A s g n H locs) {a k : Nat} {f : Int → Int} (ha : g a = some (aI T 4 k f)) {i : Int} (h : 0 ≤ i ∧ i < k ∧ (k : Int) ≤ 2147483647) (hdg : decode cc pc = .ok (.saload, 1)) (kk : W p l e R s m args below meth c H locs cells slots Q (F0 m (pc + 1) ls (.int (iI (f i)) :: rest))) : W p l e R s m args below meth c H locs cells slots Q (F0 m pc ls (.int (iI i) :: .ref a :: rest)) :=
  va_sald hC.x hC.b hC.K (hX.2.1.one ha) 0 4 rfl rfl (iI_in (by omega)) hdg (by rw [vI_at f (by omega)]; exact kk)
theorem j_lald (hC : Ct D T N A p s m args c cc own nL) (hX : Wd D A s g n H locs) {a k : Nat} {f : Int → Int} (ha : g a = some (aL T k f)) {i : Int} (h : 0 ≤ i ∧ i < k ∧ (k : Int) ≤ 2147483647) (hdg : decode cc pc = .ok (.laload, 1)) (kk : W p l e R s m args below meth c H locs cells slots Q (F0 m (pc + 1) ls (.long (lI (f i)) :: rest))) : W p l e R s m args below meth c H locs cells slots Q (F0 m pc ls (.int (iI i) :: .ref a :: rest)) :=
  va_lald hC.x hC.b hC.K (hX.2.1.one ha) 0 1 rfl rfl (iI_in (by omega)) hdg (by rw [vL_at f (by omega)]; exact kk)
/-- a reference out of an array; t0: the array's class's place in TY -/
theorem j_aald (hC : Ct D T N A p s m args c cc own nL) (hX : Wd D A s g n H locs) (t0 : Nat) {ty : FieldType} {a k : Nat} {f : Int → Option Nat} (ha : g a = some (aR T t0 k f)) (ht : (TY T)[t0]? = some (T t0, ty)) (hty : ty.isReference = true) {i : Int} (h : 0 ≤ i ∧ i < k ∧ (k : Int) ≤ 2147483647) (hdg : decode cc pc = .ok (.aaload, 1)) (kk : W p l e R s m args below meth c H locs cells slots Q (F0 m (pc + 1) ls (va_rf (f i) :: rest))) : W p l e R s m args below meth c H locs cells slots Q (F0 m pc ls (.int (iI i) :: .ref a :: rest)) := by
  have hin : vp_in (iI i) k := iI_in (by omega)
  have hlt : (iI i).toNatClampNeg < k := Nat.not_le.mp fun q => hin (Or.inr q)
  refine W.aald (v := va_rf (vR f (iI i).toNatClampNeg)) (ty := ty) hC.x hC.b (hX.2.1 _ _ ha) ((hC.K.2 t0 _ ht).1 k (fun j => va_rf (vR f j))) hty (fun q => by cases q) (by show ¬ (_ < 0 ∨ (arrV _ _ _).slots.size ≤ _); rw [arrV_size]; exact hin) (by show (arrV _ _ _).slots[_]? = _; rw [arrV_read _ _ hlt]) rfl rfl hdg ?_
  rw [vR_at f (by omega)]
  exact kk
/-! arrays: stores -/
theorem j_iast (hC : Ct D T N A p s m args c cc own nL) (hX : Wd D A s g n H locs) {a k : Nat} {f : Int → Int} (ha : g a = some (aI T 0 k f)) {i x : Int} (h : 0 ≤ i ∧ i < k ∧ (k : Int) ≤ 2147483647) (hdg : decode cc pc = .ok (.iastore, 1)) (kk : ∀ (H1 : Heap) (locs1 : List Loc), Wd D A s (va_up g a (some (aI T 0 k (uI f i x)))) n H1 locs1 → W p l e R s m args below meth c H1 locs1 cells slots Q (F0 m (pc + 1) ls rest)) : W p l e R s m args below meth c H locs cells slots Q (F0 m pc ls (.int (iI x) :: .int (iI i) :: .ref a :: rest)) := by
  have hin : vp_in (iI i) k := iI_in (by omega)
  refine W.iast hC.x hC.b (hX.2.1 _ _ ha) ((hC.K.2 0 _ rfl).1 k (fun j => .int (vI f j))) (fun q => by cases q) (by show ¬ (_ < 0 ∨ (arrV _ _ _).slots.size ≤ _); rw [arrV_size]; exact hin) rfl rfl hdg fun H1 e z oq => ?_
  refine kk H1 _ (hX.put ha ?_ z oq)
  show H1[a]? = some (vp_cell _ _)
  rw [e, vp_cell_i, vp_cell_i, arrV_store, ← vI_up f (by omega)]
  congr 2
  funext q
  by_cases hq : q = (iI i).toNatClampNeg
  · subst hq
    simp [updV, upd]
  · simp [updV, upd, hq]
theorem nar_bool {x : Int} (h : x = 0 ∨ x = 1) : vp_nar .boolean (iI x) = iI x := by
  rcases h with rfl | rfl <;> rfl
theorem j_zast (hC : Ct D T N A p s m args c cc own nL) (hX : Wd D A s g n H locs) {a k : Nat} {f : Int → Int} (ha : g a = some (aI T 2 k f)) {i x : Int} (h : 0 ≤ i ∧ i < k ∧ (k : Int) ≤ 2147483647) (hx : x = 0 ∨ x = 1) (hdg : decode cc pc = .ok (.bastore, 1)) (kk : ∀ (H1 : Heap) (locs1 : List Loc), Wd D A s (va_up g a (some (aI T 2 k (uI f i x)))) n H1 locs1 → W p l e R s m args below meth c H1 locs1 cells slots Q (F0 m (pc + 1) ls rest)) : W p l e R s m args below meth c H locs cells slots Q (F0 m pc ls (.int (iI x) :: .int (iI i) :: .ref a :: rest)) := by
  have hin : vp_in (iI i) k := iI_in (by omega)
  refine W.zast hC.x hC.b (hX.2.1 _ _ ha) ((hC.K.2 2 _ rfl).1 k (fun j => .int (vI f j))) (fun q => by cases q) (by show ¬ (_ < 0 ∨ (arrV _ _ _).slots.size ≤ _); rw [arrV_size]; exact hin) rfl rfl hdg fun H1 e z oq => ?_
  refine kk H1 _ (hX.put ha ?_ z oq)
  show H1[a]? = some (vp_cell _ _)
  rw [e, vp_cell_i, vp_cell_i, arrV_store, ← vI_up f (by omega)]
  congr 2
  funext q
  by_cases hq : q = (iI i).toNatClampNeg
  · subst hq
    rcases hx with rfl | rfl <;> simp [updV, upd] <;> rfl
  · simp [updV, upd, hq]
theorem j_last (hC : Ct D T N A p s m args c cc own nL) (hX : Wd D A s g n H locs) {a k : Nat} {f : Int → Int} (ha : g a = some (aL T k f)) {i x : Int} (h : 0 ≤ i ∧ i < k ∧ (k : Int) ≤ 2147483647) (hdg : decode cc pc = .ok (.lastore, 1)) (kk : ∀ (H1 : Heap) (locs1 : List Loc), Wd D A s (va_up g a (some (aL T k (uI f i x)))) n H1 locs1 → W p l e R s m args below meth c H1 locs1 cells slots Q (F0 m (pc + 1) ls rest)) : W p l e R s m args below meth c H locs cells slots Q (F0 m pc ls (.long (lI x) :: .int (iI i) :: .ref a :: rest)) := by
  have hin : vp_in (iI i) k := iI_in (by omega)
  refine W.last hC.x hC.b (hX.2.1 _ _ ha) ((hC.K.2 1 _ rfl).1 k (fun j => .long (vL f j))) (fun q => by cases q) (by show ¬ (_ < 0 ∨ (arrV _ _ _).slots.size ≤ _); rw [arrV_size]; exact hin) rfl rfl hdg fun H1 e z oq => ?_
  refine kk H1 _ (hX.put ha ?_ z oq)
  show H1[a]? = some (vp_cell _ _)
  rw [e, vp_cell_l, vp_cell_l, arrV_store, ← vL_up f (by omega)]
  congr 2
  funext q
  by_cases hq : q = (iI i).toNatClampNeg
  · subst hq
    simp [updV, vp_updL]
  · simp [updV, vp_updL, hq]
theorem j_alen (hC : Ct D T N A p s m args c cc own nL) (hX : Wd D A s g n H locs) (t0 : Nat) {ty : FieldType} {a : Nat} {x : vp_A} (ha : g a = some (.inl (T t0, x))) (ht : (TY T)[t0]? = some (T t0, ty)) {z : Int} (hz : (x.1 : Int) = z) (hdg : decode cc pc = .ok (.arraylength, 1)) (kk : W p l e R s m args below meth c H locs cells slots Q (F0 m (pc + 1) ls (.int (iI z) :: rest))) : W p l e R s m args below meth c H locs cells slots Q (F0 m pc ls (.ref a :: rest)) :=
  va_alen (v := iI z) hC.x hC.b hC.K (hX.2.1.one ha) 0 t0 rfl ht (by rw [← hz]; exact (iI_ofNat _).symm) hdg kk
/-! new cells -/
theorem cls_one {cA cB : ClassId} {nm : String} (h1 : s.vm.findClass nm = some cA) (h2 : s.vm.findClass nm = some cB) : cA = cB := Option.some.inj (h1.symm.trans h2)
/-- an array of numbers: t0 its class's place -/
theorem j_newI (hC : Ct D T N A p s m args c cc own nL) (hX : Wd D A s g n H locs) (t0 : Nat) {atype : ArrayType} {ty : FieldType} (hty : newarray.typeOf atype = ty) (hdf : defaultValue ty = .int 0) (hra : ∀ cA, va_RA s cA ty → s.vm.findClass ("[" ++ ty.toString) = some cA) (hT0 : (TY T)[t0]? = some (T t0, ty)) (harr : (Cond.arrayClass ty) ∈ lw_all) {z : Int} {k : Nat} (hz : z = (k : Int)) (hk : k ≤ 100000) (hcb : componentBytes ty ≤ 8) (hcells : cells + 1 ≤ R.cells) (hslots : slots + k ≤ R.slots) (hdg : decode cc pc = .ok (.newarray atype, 2))
    (kk : ∀ (H1 : Heap), Wd D A s (va_up g n (some (aI T t0 k (fun _ => 0)))) (n + 1) H1 locs → W p l e R s m args below meth c H1 locs (cells + 1) (slots + k) Q (F0 m (pc + 2) ls (.ref n :: rest))) : W p l e R s m args below meth c H locs cells slots Q (F0 m pc ls (.int (iI z) :: rest)) := by
  subst hz; subst hty
  have e0 : (iI (k : Int)).toNatClampNeg = k := by rw [iI_nat (by omega) (by omega)]; rfl
  refine va_newaK hC.x hC.b (hC.ts _ harr) rfl hdg rfl (fun q => ?_) e0 (Nat.le_trans (Nat.mul_le_mul hk hcb) (by decide)) hcells hslots hX.1 fun H1 cA e1 z1 o1 hAr hNm => ?_
  · have := (iI_lt (a := (k : Int)) (b := 0) (by omega)).mp q
    omega
  · have e2 : cA = T t0 := cls_one hNm (hra _ (hC.K.2 t0 _ hT0).2)
    subst e2
    refine kk H1 (hX.new ?_ z1 o1)
    show H1[n]? = some (vp_cell _ _)
    rw [e1, vp_cell_i, hdf]
    rfl
theorem j_newL (hC : Ct D T N A p s m args c cc own nL) (hX : Wd D A s g n H locs) {z : Int} {k : Nat} (hz : z = (k : Int)) (hk : k ≤ 100000) (hcells : cells + 1 ≤ R.cells) (hslots : slots + k ≤ R.slots) (hdg : decode cc pc = .ok (.newarray .long, 2))
    (kk : ∀ (H1 : Heap), Wd D A s (va_up g n (some (aL T k (fun _ => 0)))) (n + 1) H1 locs → W p l e R s m args below meth c H1 locs (cells + 1) (slots + k) Q (F0 m (pc + 2) ls (.ref n :: rest))) : W p l e R s m args below meth c H locs cells slots Q (F0 m pc ls (.int (iI z) :: rest)) := by
  subst hz
  have e0 : (iI (k : Int)).toNatClampNeg = k := by rw [iI_nat (by omega) (by omega)]; rfl
  refine va_newaK (atype := .long) hC.x hC.b (hC.ts _ q104) rfl hdg rfl (fun q => ?_) e0 (Nat.le_trans (Nat.mul_le_mul hk (show componentBytes (newarray.typeOf .long) ≤ 8 by decide)) (by decide)) hcells hslots hX.1 fun H1 cA e1 z1 o1 hAr hNm => ?_
  · have := (iI_lt (a := (k : Int)) (b := 0) (by omega)).mp q
    omega
  · have e2 : cA = T 1 := cls_one hNm (hC.K.2 1 _ rfl).2
    subst e2
    refine kk H1 (hX.new ?_ z1 o1)
    show H1[n]? = some (vp_cell _ _)
    rw [e1, vp_cell_l]
    rfl
/-- an array of references to objects of a class -/
theorem j_newR (hC : Ct D T N A p s m args c cc own nL) (hX : Wd D A s g n H locs) (t0 : Nat) {C : String} {index : Nat} (hlink : (Cond.classLink own index C) ∈ lw_all) (hover : (Cond.arrayOver (.object C)) ∈ lw_tbl) (hT0 : (TY T)[t0]? = some (T t0, .object C)) {z : Int} {k : Nat} (hz : z = (k : Int)) (hk : k ≤ 100000) (hcells : cells + 1 ≤ R.cells) (hslots : slots + k ≤ R.slots) (hdg : decode cc pc = .ok (.anewarray index, 3))
    (kk : ∀ (H1 : Heap), Wd D A s (va_up g n (some (aR T t0 k (fun _ => none)))) (n + 1) H1 locs → W p l e R s m args below meth c H1 locs (cells + 1) (slots + k) Q (F0 m (pc + 3) ls (.ref n :: rest))) : W p l e R s m args below meth c H locs cells slots Q (F0 m pc ls (.int (iI z) :: rest)) := by
  subst hz
  have e0 : (iI (k : Int)).toNatClampNeg = k := by rw [iI_nat (by omega) (by omega)]; rfl
  refine W.anew hC.x hC.b hC.ow (hC.ts _ hlink) (va_AO.use (hC.W.w hover rfl)) rfl hdg rfl (fun q => ?_) (by rw [e0]; omega) hcells (by rw [e0]; exact hslots) fun cA kA comp f1 f2 f3 f4 => ?_
  · have := (iI_lt (a := (k : Int)) (b := 0) (by omega)).mp q
    omega
  · obtain ⟨kA', comp', -, -, -, f5⟩ := (hC.K.2 t0 _ hT0).2
    have e2 : cA = T t0 := cls_one f1 f5
    subst e2
    rw [e0]
    have hz := hX.1
    subst hz
    refine kk _ (hX.new ?_ (by rw [Array.size_push]) (fun q hq => by rw [Array.getElem?_push, if_neg (Nat.ne_of_lt hq)]))
    show (H.push _)[H.size]? = some (vp_cell _ _)
    rw [vp_cell_q, Array.getElem?_push_size]
    show _ = some (arrV (T t0) k (fun _ => Value.null))
    rw [← arrV_new]
/-- an array of references to arrays -/
theorem j_newRA (hC : Ct D T N A p s m args c cc own nL) (hX : Wd D A s g n H locs) (t0 : Nat) {t : FieldType} {index : Nat} (hlink : (Cond.classLink own index (FieldType.array t).toString) ∈ lw_all) (hover : (Cond.arrayOver (.array t)) ∈ lw_tbl) (hT0 : (TY T)[t0]? = some (T t0, .array t)) {z : Int} {k : Nat} (hz : z = (k : Int)) (hk : k ≤ 100000) (hcells : cells + 1 ≤ R.cells) (hslots : slots + k ≤ R.slots) (hdg : decode cc pc = .ok (.anewarray index, 3))
    (kk : ∀ (H1 : Heap), Wd D A s (va_up g n (some (aR T t0 k (fun _ => none)))) (n + 1) H1 locs → W p l e R s m args below meth c H1 locs (cells + 1) (slots + k) Q (F0 m (pc + 3) ls (.ref n :: rest))) : W p l e R s m args below meth c H locs cells slots Q (F0 m pc ls (.int (iI z) :: rest)) := by
  subst hz
  have e0 : (iI (k : Int)).toNatClampNeg = k := by rw [iI_nat (by omega) (by omega)]; rfl
  refine W.anewA hC.x hC.b hC.ow (hC.ts _ hlink) (aOA_moved (Vm.Alike.refl _) (hC.W.w hover rfl)) rfl hdg rfl (fun q => ?_) (by rw [e0]; omega) hcells (by rw [e0]; exact hslots) fun cA kA comp f1 f2 f3 f4 => ?_
  · have := (iI_lt (a := (k : Int)) (b := 0) (by omega)).mp q
    omega
  · have f5 : s.vm.findClass ("[" ++ (FieldType.array t).toString) = some (T t0) := (hC.K.2 t0 _ hT0).2
    have e2 : cA = T t0 := cls_one f1 f5
    subst e2
    rw [e0]
    have hz := hX.1
    subst hz
    refine kk _ (hX.new ?_ (by rw [Array.size_push]) (fun q hq => by rw [Array.getElem?_push, if_neg (Nat.ne_of_lt hq)]))
    show (H.push _)[H.size]? = some (vp_cell _ _)
    rw [vp_cell_q, Array.getElem?_push_size]
    show _ = some (arrV (T t0) k (fun _ => Value.null))
    rw [← arrV_new]
/-- a new object of a class of CL -/
theorem j_new (hC : Ct D T N A p s m args c cc own nL) (hX : Wd D A s g n H locs) (ci : Nat) {C : String} {T0 : u_T} {M index : Nat} (hin : ∀ w ∈ u_ws C T0 M, w ∈ lw_all) (ty : Nat → FieldType) (hty : ∀ k, k < M → parseFieldDescriptor (T0 k).2.2.1 = some (ty k)) (hcl : (Cond.classLink own index C) ∈ lw_all) (hinst : (Cond.instantiable C M) ∈ lw_all) (hini : (Cond.initialized C) ∈ lw_all) (hc : CL[ci]? = some (C, T0, M)) {fs : List Value} (hfs : ∀ j, j < M → defaultValue (ty j) = vp_V fs j) (hcells : cells + 1 ≤ R.cells) (hslots : slots + M ≤ R.slots) (hdg : decode cc pc = .ok (.new index, 3))
    (kk : ∀ (H1 : Heap), Wd D A s (va_up g n (some (oB ci fs))) (n + 1) H1 locs → W p l e R s m args below meth c H1 locs (cells + 1) (slots + M) Q (F0 m (pc + 3) ls (.ref n :: rest))) : W p l e R s m args below meth c H locs cells slots Q (F0 m pc ls rest) := by
  have hKn := hC.K.1 ci _ hc
  refine W.newcK hC.x hC.b hC.ow (hC.ts _ hcl) (hC.ts _ hinst) (hC.ts _ hini) rfl hdg hcells hslots hKn.2.1 hX.1 fun H1 kC hkC e1 z1 o1 => ?_
  exact kk H1 (hX.new ⟨_, hc, (u_born ty hC.ts hin hKn hkC e1 hty).to hfs⟩ z1 o1)
/-! references into arrays -/
/-- an object of a class into an array of that class -/
theorem j_aast (hC : Ct D T N A p s m args c cc own nL) (hX : Wd D A s g n H locs) (t0 ci : Nat) {r : vw_C} {a k v : Nat} {vs : List Value} {f : Int → Option Nat} (ha : g a = some (aR T t0 k f)) (ht : (TY T)[t0]? = some (T t0, .object r.1)) (hv : g v = some (oB ci vs)) (hc : CL[ci]? = some r) {i : Int} (h : 0 ≤ i ∧ i < k ∧ (k : Int) ≤ 2147483647) (hdg : decode cc pc = .ok (.aastore, 1))
    (kk : ∀ (H1 : Heap) (locs1 : List Loc), Wd D A s (va_up g a (some (aR T t0 k (uI f i (some v))))) n H1 locs1 → W p l e R s m args below meth c H1 locs1 cells slots Q (F0 m (pc + 1) ls rest)) : W p l e R s m args below meth c H locs cells slots Q (F0 m pc ls (.ref v :: .int (iI i) :: .ref a :: rest)) := by
  have hin : vp_in (iI i) k := iI_in (by omega)
  have hlt : (iI i).toNatClampNeg < k := Nat.not_le.mp fun q => hin (Or.inr q)
  have h0 : ¬ (iI i) < 0 := fun q => hin (Or.inl q)
  obtain ⟨r', hr', cellV, g1, g2, g3, -⟩ := hX.2.1 _ _ hv
  have hcls := (hC.K.1 ci r hc).2
  obtain ⟨kA, comp, k1, k2, k3, -⟩ := (hC.K.2 t0 _ ht).2
  have hcomp : comp = D.1 ci := Option.some.inj (k3.symm.trans hcls.1)
  subst hcomp
  obtain ⟨kC, hkC, -⟩ := hcls.2
  refine W.aast hC.x hC.b (hX.2.1 _ _ ha) (fun q h => by cases h) (fun h => by cases h) k1 k2 rfl hkC ⟨h0, by show _ < (arrV _ _ _).slots.size; rw [arrV_size]; exact hlt⟩ g1 (fun q h => by rw [g3] at h; cases h) (by rw [g2]; exact hkC) (by rw [g2]; exact va_assign hcls) rfl rfl hdg fun H1 e z oq => ?_
  refine kk H1 _ (hX.put ha ?_ z oq)
  show H1[a]? = some (vp_cell _ _)
  rw [e, vp_cell_q, vp_cell_q, arrV_store, ← vR_up f (by omega)]
  congr 2
  funext q
  by_cases hq : q = (iI i).toNatClampNeg
  · subst hq
    simp [updV, va_up, va_rf]
  · simp [updV, va_up, hq]
/-- null into an array of references -/
theorem j_aastN (hC : Ct D T N A p s m args c cc own nL) (hX : Wd D A s g n H locs) (t0 : Nat) {C : String} {a k : Nat} {f : Int → Option Nat} (ha : g a = some (aR T t0 k f)) (ht : (TY T)[t0]? = some (T t0, .object C)) {i : Int} (h : 0 ≤ i ∧ i < k ∧ (k : Int) ≤ 2147483647) (hdg : decode cc pc = .ok (.aastore, 1))
    (kk : ∀ (H1 : Heap) (locs1 : List Loc), Wd D A s (va_up g a (some (aR T t0 k (uI f i none)))) n H1 locs1 → W p l e R s m args below meth c H1 locs1 cells slots Q (F0 m (pc + 1) ls rest)) : W p l e R s m args below meth c H locs cells slots Q (F0 m pc ls (.null :: .int (iI i) :: .ref a :: rest)) := by
  have hin : vp_in (iI i) k := iI_in (by omega)
  refine va_WaastN (C := C) hC.x hC.b (hX.2.1 _ _ ha) ((hC.K.2 t0 _ ht).1 k (fun j => va_rf (vR f j))) (fun h => by cases h) (by show ¬ (_ < 0 ∨ (arrV _ _ _).slots.size ≤ _); rw [arrV_size]; exact hin) rfl rfl hdg fun H1 e z oq => ?_
  refine kk H1 _ (hX.put ha ?_ z oq)
  show H1[a]? = some (vp_cell _ _)
  rw [e, vp_cell_q, vp_cell_q, arrV_store, ← vR_up f (by omega)]
  congr 2
  funext q
  by_cases hq : q = (iI i).toNatClampNeg
  · subst hq
    simp [updV, va_up, va_rf]
  · simp [updV, va_up, hq]
/-! ends -/
theorem gQ_end {g0 : GH} {n0 : Nat} (hX : Wd D (gA g0 n0) s g n H locs) {t : State} (ht : t.heap = H) : gB D g0 n0 g n t ∧ va_F (gA g0 n0) s t :=
  ⟨⟨by rw [ht]; exact hX.1, by rw [ht]; exact hX.2.1, hX.2.2.1⟩, hX.2.2.2.1.F ht⟩
theorem j_iret (hC : Ct D T N A p s m args c cc own nL) {g0 : GH} {n0 mc ms : Nat} {post : Int → GH → Nat → Prop} {z : Int} (hX : Wd D (gA g0 n0) s g n H locs) (hr : meth.sig.returnType = some .int) (hlocks : meth.locks = false) (hc : cells ≤ mc) (hs : slots ≤ ms) (hdg : decode cc pc = .ok (.ireturn, 1)) (hp : post z g n) : W p l e R s m args below meth c H locs cells slots (MQ below (gQi D g0 n0 post) args s mc ms (gA g0 n0)) (F0 m pc ls [.int (iI z)]) :=
  W.widen hc hs (W.iret hC.x hC.b hr (fun t ht _ => ⟨⟨iI z, (z, g, n), rfl, ⟨rfl, hp⟩, (gQ_end hX ht).1⟩, (gQ_end hX ht).2⟩) hX.2.2.2.1.2.2 hdg hlocks)
theorem j_zret (hC : Ct D T N A p s m args c cc own nL) {g0 : GH} {n0 mc ms : Nat} {post : Int → GH → Nat → Prop} {z : Int} (hX : Wd D (gA g0 n0) s g n H locs) (hr : meth.sig.returnType = some .boolean) (hlocks : meth.locks = false) (hc : cells ≤ mc) (hs : slots ≤ ms) (hdg : decode cc pc = .ok (.ireturn, 1)) (hz : z = 0 ∨ z = 1) (hp : post z g n) : W p l e R s m args below meth c H locs cells slots (MQ below (gQi D g0 n0 post) args s mc ms (gA g0 n0)) (F0 m pc ls [.int (iI z)]) :=
  W.widen hc hs (W.zret hC.x hC.b hr (by rcases hz with rfl | rfl <;> rfl) (fun t ht _ => ⟨⟨iI z, (z, g, n), rfl, ⟨rfl, hp⟩, (gQ_end hX ht).1⟩, (gQ_end hX ht).2⟩) hX.2.2.2.1.2.2 hdg hlocks)
theorem j_lret (hC : Ct D T N A p s m args c cc own nL) {g0 : GH} {n0 mc ms : Nat} {post : Int → GH → Nat → Prop} {z : Int} (hX : Wd D (gA g0 n0) s g n H locs) (hr : meth.sig.returnType = some .long) (hlocks : meth.locks = false) (hc : cells ≤ mc) (hs : slots ≤ ms) (hdg : decode cc pc = .ok (.lreturn, 1)) (hp : post z g n) : W p l e R s m args below meth c H locs cells slots (MQ below (gQl D g0 n0 post) args s mc ms (gA g0 n0)) (F0 m pc ls [.long (lI z)]) :=
  W.widen hc hs (W.lret hC.x hC.b hr (fun t ht _ => ⟨⟨lI z, (z, g, n), rfl, ⟨rfl, hp⟩, (gQ_end hX ht).1⟩, (gQ_end hX ht).2⟩) hX.2.2.2.1.2.2 hdg hlocks)
theorem j_vret (hC : Ct D T N A p s m args c cc own nL) {g0 : GH} {n0 mc ms : Nat} {post : GH → Nat → Prop} (hX : Wd D (gA g0 n0) s g n H locs) (hr : meth.sig.returnType = none) (hlocks : meth.locks = false) (hc : cells ≤ mc) (hs : slots ≤ ms) (hdg : decode cc pc = .ok (.return_, 1)) (hp : post g n) : W p l e R s m args below meth c H locs cells slots (MQ below (gQv D g0 n0 post) args s mc ms (gA g0 n0)) (F0 m pc ls []) :=
  W.widen hc hs (W.vret hC.x hC.b hr (fun t ht _ => ⟨⟨(g, n), rfl, hp, (gQ_end hX ht).1⟩, (gQ_end hX ht).2⟩) hX.2.2.2.1.2.2 hdg hlocks)
theorem j_aret (hC : Ct D T N A p s m args c cc own nL) {g0 : GH} {n0 mc ms : Nat} {post : Option Nat → GH → Nat → Prop} {rt : FieldType} {z : Option Nat} (hX : Wd D (gA g0 n0) s g n H locs) (hr : meth.sig.returnType = some rt) (hrt : (∃ k, rt = .object k) ∨ ∃ t, rt = .array t) (hlocks : meth.locks = false) (hc : cells ≤ mc) (hs : slots ≤ ms) (hdg : decode cc pc = .ok (.areturn, 1)) (hp : post z g n) : W p l e R s m args below meth c H locs cells slots (MQ below (gQq D g0 n0 post) args s mc ms (gA g0 n0)) (F0 m pc ls [va_rf z]) :=
  W.widen hc hs (W.aret hC.x hC.b hr hrt (by cases z with | none => exact Or.inl rfl | some a => exact Or.inr ⟨a, rfl⟩) (fun t ht _ => ⟨⟨z, (g, n), rfl, hp, (gQ_end hX ht).1⟩, (gQ_end hX ht).2⟩) hX.2.2.2.1.2.2 hdg hlocks)
/-! calls -/
theorem j_pre (hC : Ct D T N A p s m args c cc own nL) (hX : Wd D A s g n H locs) (av : List Value) : ∀ U : State, U.heap = H → s.WarmedH U.vm → gPc D T N av g n av.toArray U := fun U hU hW =>
  ⟨rfl, by rw [hU]; exact hX.1, by rw [hU]; exact hX.2.1, va_K.moved hW.alike hC.K, TWx.warm hW hC.W, by rw [hU]; exact (hC.sub hX).moved hW.alike⟩
theorem j_preS (hC : Ct D T N A p s m args c cc own nL) (hX : Wd D A s g n H locs) (av : List Value) : PreS s H (gPc D T N av g n) av := ⟨gPc_blind, j_pre hC hX av⟩
theorem j_preV (hC : Ct D T N A p s m args c cc own nL) (hX : Wd D A s g n H locs) {b ci : Nat} {r : vw_C} {fs : List Value} (hb : g b = some (oB ci fs)) (hc : CL[ci]? = some r) (av : List Value) : PreV s H r.1 b (gPc D T N (.ref b :: av) g n) av :=
  ⟨gPc_blind, va_recv hC.K (hX.2.1.one hb) hc (q0 := 0) rfl, j_pre hC hX (.ref b :: av)⟩
theorem Wd.after {g' : GH} {n' : Nat} {H1 : Heap} {locs1 : List Loc} {t : State} (hX : Wd D A s g n H locs) (ht : t.heap = H1) (hB : gB D g n g' n' t) (hS : va_S A s.heap H1 locs1) : Wd D A s g' n' H1 locs1 := by
  obtain ⟨b1, b2, b3⟩ := hB
  rw [ht] at b1 b2
  exact ⟨b1, b2, fun a ha => by
    rcases b3 a ha with z | z
    · exact hX.2.2.1 a z
    · exact hX.2.2.2.2 a (Nat.le_trans (by rw [← hX.1]; exact hX.2.2.2.1.1) z), hS, hX.2.2.2.2⟩
theorem Wd.fA (hX : Wd D A s g n H locs) : ∀ q, gA g n q → A q := fun q h => by
  rcases h with h | h
  · exact hX.2.2.1 q h
  · exact hX.2.2.2.2 q (Nat.le_trans (by rw [← hX.1]; exact hX.2.2.2.1.1) h)
theorem j_calli {mc ms : Nat} {st0 : List Value} {a : Array Value} {post : Int → GH → Nat → Prop} (hX : Wd D A s g n H locs) (hr : va_Run p l e R s m args below meth c H locs cells slots mc ms (F0 m pc ls st0) rest (gQi D g n post a) (gA g n))
    (kk : ∀ (r : Int) (g' : GH) (n' : Nat) (H1 : Heap) (locs1 : List Loc), post r g' n' → n ≤ n' → Wd D A s g' n' H1 locs1 → W p l e R s m args below meth c H1 locs1 (cells + mc) (slots + ms) Q (F0 m (pc + 3) ls (.int (iI r) :: rest))) : W p l e R s m args below meth c H locs cells slots Q (F0 m pc ls st0) :=
  va_calli hr hX.2.2.2.1 (fun q _ h => hX.fA q h) hX.fA (fun r u t H1 locs1 ht _ hp hB hz _ hS => by
    obtain ⟨rfl, hp⟩ := hp
    exact kk u.1 u.2.1 u.2.2 H1 locs1 hp (by rw [← hX.1, ← hB.1, ht]; exact hz) (hX.after ht hB hS))
theorem j_calll {mc ms : Nat} {st0 : List Value} {a : Array Value} {post : Int → GH → Nat → Prop} (hX : Wd D A s g n H locs) (hr : va_Run p l e R s m args below meth c H locs cells slots mc ms (F0 m pc ls st0) rest (gQl D g n post a) (gA g n))
    (kk : ∀ (r : Int) (g' : GH) (n' : Nat) (H1 : Heap) (locs1 : List Loc), post r g' n' → n ≤ n' → Wd D A s g' n' H1 locs1 → W p l e R s m args below meth c H1 locs1 (cells + mc) (slots + ms) Q (F0 m (pc + 3) ls (.long (lI r) :: rest))) : W p l e R s m args below meth c H locs cells slots Q (F0 m pc ls st0) :=
  va_calll hr hX.2.2.2.1 (fun q _ h => hX.fA q h) hX.fA (fun r u t H1 locs1 ht _ hp hB hz _ hS => by
    obtain ⟨rfl, hp⟩ := hp
    exact kk u.1 u.2.1 u.2.2 H1 locs1 hp (by rw [← hX.1, ← hB.1, ht]; exact hz) (hX.after ht hB hS))
theorem j_callv {mc ms : Nat} {st0 : List Value} {a : Array Value} {post : GH → Nat → Prop} (hX : Wd D A s g n H locs) (hr : va_Run p l e R s m args below meth c H locs cells slots mc ms (F0 m pc ls st0) rest (gQv D g n post a) (gA g n))
    (kk : ∀ (g' : GH) (n' : Nat) (H1 : Heap) (locs1 : List Loc), post g' n' → n ≤ n' → Wd D A s g' n' H1 locs1 → W p l e R s m args below meth c H1 locs1 (cells + mc) (slots + ms) Q (F0 m (pc + 3) ls rest)) : W p l e R s m args below meth c H locs cells slots Q (F0 m pc ls st0) :=
  va_callv hr hX.2.2.2.1 (fun q _ h => hX.fA q h) hX.fA (fun u t H1 locs1 ht _ hp hB hz _ hS =>
    kk u.1 u.2 H1 locs1 hp (by rw [← hX.1, ← hB.1, ht]; exact hz) (hX.after ht hB hS))
theorem j_callq {mc ms : Nat} {st0 : List Value} {a : Array Value} {post : Option Nat → GH → Nat → Prop} (hX : Wd D A s g n H locs) (hr : va_Run p l e R s m args below meth c H locs cells slots mc ms (F0 m pc ls st0) rest (gQq D g n post a) (gA g n))
    (kk : ∀ (r : Option Nat) (g' : GH) (n' : Nat) (H1 : Heap) (locs1 : List Loc), post r g' n' → n ≤ n' → Wd D A s g' n' H1 locs1 → W p l e R s m args below meth c H1 locs1 (cells + mc) (slots + ms) Q (F0 m (pc + 3) ls (va_rf r :: rest))) : W p l e R s m args below meth c H locs cells slots Q (F0 m pc ls st0) :=
  va_callq hr hX.2.2.2.1 (fun q _ h => hX.fA q h) hX.fA (fun r u t H1 locs1 ht _ hp hB hz _ hS =>
    kk r u.1 u.2 H1 locs1 hp (by rw [← hX.1, ← hB.1, ht]; exact hz) (hX.after ht hB hS))
end JR
/-- a contract's walk, from its start -/
theorem j_start {l : Launch} {y : MethodName} {cc : ByteArray} {nL : Nat} {ret : Option FieldType} {rm : Room} {D : va_G} {T N : Nat → Nat} {av : List Value} {g : GH} {n mc ms : Nat} {Qc : Array Value → State → Outcome → State → Prop} (hy : plainName y.cls = true) (hn : (lg_sl av).length ≤ nL)
    (body : ∀ (p : Program) (e : Env) (s : State) (m : MethodId) (args : Array Value) (below : List Frame) (meth : Method) (c : Code), Ct D T N (gA g n) p s m args c cc y.cls nL → meth.sig.returnType = ret → meth.locks = false → meth.name = y.name → Wd D (gA g n) s g n s.heap [] → ∀ ls : Array Slot, lv_has ls nL (lv_args 0 av) → W p l e rm s m args below meth c s.heap [] 0 0 (MQ below Qc args s mc ms (gA g n)) (F0 m 0 ls [])) :
    Met l y (ws_ y cc nL ret) rm (gPc D T N av g n) Qc mc ms (gA g n) := by
  refine Met.ofW (cc := cc) (maxL := nL) (ret := ret) hy rfl ?_
  intro p e s m args below meth c s₁ B hml hv
  obtain ⟨rfl, hsz, hP, hK, hT, hZ⟩ := hv
  have hts := atoms_spec (ws := ws_ y cc nL ret) B.pre
  have hts : ∀ w ∈ lw_all, w.before _ s = true := fun w h => hts w (List.mem_cons_of_mem _ h)
  have hl := lv_entry av (n := nL) hn
  rw [lg_entry_eq]
  exact body p e s m av.toArray below meth c ⟨B.exec, B.bytes, hts, findClass_of_methodNamed B.named, hK, hT, hZ, hml⟩ B.returns B.notSynchronized (name_of_methodNamed B.named B.method).1 ⟨hsz, hP, fun a ha => Or.inl ha, va_S.rf, fun q hq => Or.inr (by rw [← hsz]; exact hq)⟩ _ hl
