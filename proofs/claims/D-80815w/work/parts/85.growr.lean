/-! what a list that grows calls: getClass, a class constant, arraycopy of references over labels, half a length -/
section GRW
variable {p : Program} {l : Launch} {e : Env} {R : Room} {s : State} {m : MethodId} {args : Array Value} {below : List Frame} {meth : Method} {c : Code} {H : Heap} {locs : List Loc} {cells slots : Nat} {Q : State → Prop}
variable {cc : ByteArray} {pc : Nat} {ls : Array Slot} {rest : List Value} {D : va_G} {T N : Nat → Nat} {A : Nat → Prop} {g : GH} {n nL : Nat} {own : String} {S : LbS} {W1 : Nat → Int → Int}
theorem nm_O (hC : Ct D T N A p s m args c cc own nL) : s.vm.findClass "[Ljava/lang/Object;" = some (T 9) := va_nmO (hC.K.2 9 _ rfl).2 (by decide)
theorem L_getCl (hC : Ct D T N A p s m args c cc "java/util/Arrays" nL) (hX : Wd D A s g n H locs) (hL : lR T g S W1) (lb : Nat) (hk : zK S lb = 10) {L : Nat} (hn : zN S lb = L) (hls : ls.size = nL) (hframes : 1 ≤ R.frames) (hlocals : (rest.map fun v => v.category).sum + 14 ≤ R.locals) (hdg : decode cc pc = .ok (.invokevirtual 86, 3))
    (k : W p l e R s m args below meth c H locs cells slots Q (F0 m (pc + 3) ls (.ref (N 262) :: rest))) : W p l e R s m args below meth c H locs cells slots Q (F0 m pc ls (.ref (zB S lb) :: rest)) :=
  va_getC hC.x hC.b (hC.2.2.2.2.2.2.2.trans hls.symm) hC.ow (hC.ts _ q551) (hC.W.u q1303 rfl rfl) (hC.ts _ q1302) (hC.ts _ q552) (hC.ts _ q570) hC.Z.2.2.2.2.2.2.2.2.2.2.2.2.2 ⟨_, hX.2.1 _ _ (hL.ar lb (t := 9) hk (by decide) hn), rfl, nm_O hC⟩ hframes hlocals hdg k
theorem j_ldcO (hC : Ct D T N A p s m args c cc "java/util/Arrays" nL) (hdg : decode cc pc = .ok (.ldc 110, 2))
    (k : W p l e R s m args below meth c H locs cells slots Q (F0 m (pc + 2) ls (.ref (N 262) :: rest))) : W p l e R s m args below meth c H locs cells slots Q (F0 m pc ls rest) :=
  va_ldcM hC.x hC.b hC.ow (hC.ts _ q574) hC.Z.2.2.2.2.2.2.2.2.2.2.2.2.2 hdg k
theorem L_copyR (hC : Ct D T N A p s m args c cc own nL) (hX : Wd D A s g n H locs) (hL : lR T g S W1) (l0 l1 t : Nat) {C E : String} (hty : (TY T)[t]? = some (T t, .object E)) (ht : 5 ≤ t ∧ t < 19) {index : Nat} (hlink : (Cond.methodLink own index arraycopyName) ∈ lw_all) (hcs : (Cond.castable C E) ∈ lw_tbl) (hcw : nestW (Cond.castable C E) = true) (hls : ls.size = nL) (hk0 : zK S l0 = t + 1) (hk1 : zK S l1 = t + 1) {n0 n1 : Nat} (hn0 : zN S l0 = n0) (hn1 : zN S l1 = n1) {sp dp k : Int} (h : 0 ≤ sp ∧ 0 ≤ dp ∧ 0 ≤ k ∧ sp + k ≤ n0 ∧ dp + k ≤ n1 ∧ n0 ≤ 100000 ∧ n1 ≤ 100000)
    (hel : ∀ i : Int, 0 ≤ i → i < k → ∀ y : Nat, zA S l0 (sp + i) = some y → hasC C s H y) (hframes : 1 ≤ R.frames) (hlocals : (rest.map fun v => v.category).sum + (nativeFrameWords "java/lang/System" "arraycopy" 5 + 11) ≤ R.locals) (hdg : decode cc pc = .ok (.invokestatic index, 3))
    (kk : ∀ (g' : GH) (H1 : Heap) (locs1 : List Loc), Wd D A s g' n H1 locs1 → lR T g' (uA S l1 (cpR (zA S l0) (zA S l1) sp dp k)) W1 → W p l e R s m args below meth c H1 locs1 cells slots Q (F0 m (pc + 3) ls rest)) : W p l e R s m args below meth c H locs cells slots Q (F0 m pc ls (.int (iI k) :: .int (iI dp) :: .ref (zB S l1) :: .int (iI sp) :: .ref (zB S l0) :: rest)) :=
  j_copyR hC hX t hty hlink hcs hcw hls (hL.ar l0 hk0 ht hn0) (hL.ar l1 hk1 ht hn1) h hel hframes hlocals hdg (fun H1 locs1 hX1 => kk _ H1 locs1 hX1 (hL.ur l1 hk1 ht hn1 _))
theorem j_half (hC : Ct D T N A p s m args c cc own nL) {L : Nat} (hL3 : L = 10 ∨ L = 15 ∨ L = 22) (hdg : decode cc pc = .ok (.ishr, 1)) (k : W p l e R s m args below meth c H locs cells slots Q (F0 m (pc + 1) ls (.int (iI ((L : Int) / 2)) :: rest))) : W p l e R s m args below meth c H locs cells slots Q (F0 m pc ls (.int (iI 1) :: .int (iI (L : Int)) :: rest)) :=
  lv_ishr hC.x hC.b hdg (by
    have : iI (L : Int) >>> (iI 1 &&& 31) = iI ((L : Int) / 2) := by rcases hL3 with rfl | rfl | rfl <;> decide
    rw [this]
    exact k)
end GRW
theorem cpR_s {f g1 : Int → Option Nat} {k i : Int} (h : 0 ≤ i ∧ i < k) : cpR f g1 0 0 k i = f i := by
  unfold cpR
  rw [if_pos (by omega)]
  congr 1
  omega
theorem maxF_r {a b : Int} (h : a ≤ b) : maxF a b = b := by
  unfold maxF
  split <;> omega
theorem minF_l {a b : Int} (h : a ≤ b) : minF a b = a := by
  unfold minF
  split <;> omega
