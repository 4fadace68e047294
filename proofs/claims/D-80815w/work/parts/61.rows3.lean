/-! rows for the lists: an inherited field, null into an array, casts, the lists' and Integer's static cells -/
section RW3
variable {p : Program} {l : Launch} {e : Env} {R : Room} {s : State} {m : MethodId} {args : Array Value} {below : List Frame} {meth : Method} {c : Code} {H : Heap} {locs : List Loc} {cells slots : Nat} {Q : State → Prop}
variable {cc : ByteArray} {pc : Nat} {ls : Array Slot} {rest : List Value} {D : va_G} {T N : Nat → Nat} {A : Nat → Prop} {g : GH} {n nL : Nat} {own : String} {S : LbS} {W1 : Nat → Int → Int}
/-- modCount, by ArrayList's own link -/
theorem L_getM (hC : Ct D T N A p s m args c cc "java/util/ArrayList" nL) (hX : Wd D A s g n H locs) (hL : lR T g S W1) (lb : Nat) (hk : zK S lb = 27) (hdg : decode cc pc = .ok (.getfield 63, 3))
    (kk : W p l e R s m args below meth c H locs cells slots Q (F0 m (pc + 3) ls (.int (iI (W1 lb 0)) :: rest))) : W p l e R s m args below meth c H locs cells slots Q (F0 m pc ls (.ref (zB S lb) :: rest)) :=
  va_get (v := .int (iI (W1 lb 0))) hC.x hC.b hC.ts in_J2 hC.ow hC.K (hX.2.1.one (hL.ob lb (ci := 7) hk)) 0 rfl rfl 0 (by decide) (hC.ts _ q122) (fun x z => u_same (hC.ts _ q123) x z) rfl hdg kk
theorem L_putM (hC : Ct D T N A p s m args c cc "java/util/ArrayList" nL) (hX : Wd D A s g n H locs) (hL : lR T g S W1) (lb : Nat) (hk : zK S lb = 27) {z : Int} (hdg : decode cc pc = .ok (.putfield 63, 3))
    (kk : ∀ (g' : GH) (H1 : Heap) (locs1 : List Loc), Wd D A s g' n H1 locs1 → lR T g' S (va_up W1 lb (uI (W1 lb) 0 z)) → W p l e R s m args below meth c H1 locs1 cells slots Q (F0 m (pc + 3) ls rest)) : W p l e R s m args below meth c H locs cells slots Q (F0 m pc ls (.int (iI z) :: .ref (zB S lb) :: rest)) := by
  have ha := hL.ob lb (ci := 7) hk
  have hc : CL[7]? = some ("java/util/ArrayList", TJ2, 3) := rfl
  have hap := va_apart (own := "java/util/ArrayList") hC.ts in_J2 tyJ2 tyJ2_ok nmJ2 hC.K hc
  obtain ⟨r, h1, cell, q1, q2, q3, q4⟩ := hX.2.1 _ _ ha
  have hr : r = ("java/util/ArrayList", TJ2, 3) := Option.some.inj (h1.symm.trans hc)
  subst hr
  obtain ⟨hS, hfc, kC, hkC, hkind⟩ := hC.K.1 7 _ hc
  obtain ⟨cf, kf, fi, f, hi, hsl⟩ := hS 0 (by decide)
  have hlay := hC.ts _ (in_J2 _ (u_in_lay (k := 0) (by decide)))
  unfold u_lay at hlay
  rw [if_neg (by decide)] at hlay
  have hst := (u_facts hfc hkC (u_lays hC.ts in_J2 (k := 0) (by decide)) hi).1
  have h6 := u_store (v := .int (iI z)) hfc hkC hkind hlay hi (tyJ2_ok 0 (by decide)) rfl rfl
  refine W.putK hC.x hC.b (f := f) ⟨hC.ow, hC.ts _ q122, ⟨_, _, _, u_same (hC.ts _ q123) _ hi⟩, hst⟩ (by rw [q2]; exact h6) q1 q3 (by rw [hsl]; exact k2_hasslot (q4 0 (by decide))) rfl rfl hdg fun H' e1 e2 e3 => ?_
  rw [hsl] at e1 ⊢
  have hfs : (oFs 7 (W1 lb) (zA S lb)).set 0 (.int (iI z)) = oFs 7 (uI (W1 lb) 0 z) (zA S lb) := rfl
  have hL2 := hL.uO lb (ci := 7) hk (uI (W1 lb) 0 z)
  rw [← hfs] at hL2
  exact kk _ H' _ (hX.put (e := oB 7 ((oFs 7 (W1 lb) (zA S lb)).set 0 (.int (iI z)))) ha ⟨_, hc, t_OB.to (V := updV (vp_V _) 0 (.int (iI z))) ⟨_, e1, q2, q3, t_set q4 hap (by decide) (.int (iI z))⟩ (fun j _ => vp_updV_set (by show 0 < 3; decide) (.int (iI z)) j)⟩ e2 e3) hL2
theorem L_aastN (hC : Ct D T N A p s m args c cc own nL) (hX : Wd D A s g n H locs) (hL : lR T g S W1) (lb t : Nat) {C : String} (hk : zK S lb = t + 1) (ht : 5 ≤ t ∧ t < 19) (hT : (TY T)[t]? = some (T t, .object C)) {L : Nat} (hn : zN S lb = L) (hLr : L ≤ 2147483647) {i : Int} (h : 0 ≤ i ∧ i < L) (hdg : decode cc pc = .ok (.aastore, 1)) (kk : ∀ (g' : GH) (H1 : Heap) (locs1 : List Loc), Wd D A s g' n H1 locs1 → lR T g' (uA S lb (uI (zA S lb) i none)) W1 → W p l e R s m args below meth c H1 locs1 cells slots Q (F0 m (pc + 1) ls rest)) : W p l e R s m args below meth c H locs cells slots Q (F0 m pc ls (.null :: .int (iI i) :: .ref (zB S lb) :: rest)) :=
  j_aastN hC hX t (hL.ar lb hk ht hn) hT (by omega) hdg (fun H1 locs1 hX1 => kk _ H1 locs1 hX1 (hL.ur lb hk ht hn _))
theorem j_cast (hC : Ct D T N A p s m args c cc own nL) {index : Nat} {nm : String} {a : Nat} (hlink : (Cond.classLink own index nm) ∈ lw_all) (hv : hasC nm s H a) (hdg : decode cc pc = .ok (.checkcast index, 3))
    (kk : W p l e R s m args below meth c H locs cells slots Q (F0 m (pc + 3) ls (.ref a :: rest))) : W p l e R s m args below meth c H locs cells slots Q (F0 m pc ls (.ref a :: rest)) :=
  va_castE hC.x hC.b hC.ow (hC.ts _ hlink) hv hdg kk
theorem hasC_int (hC : Ct D T N A p s m args c cc own nL) (hX : Wd D A s g n H locs) {k : Nat} (hk : k < 256) : hasC "java/lang/Integer" s H (N (6 + k)) := by
  obtain ⟨cell, h1, h2, h3, h4⟩ := (hC.Z.2.2.2.2.2.2.2.2.2.2.1.1 k hk).kept hX.2.2.2.1.2.1
  exact ⟨cell, h1, h2, h3⟩
theorem j_empty (hC : Ct D T N A p s m args c cc "java/util/ArrayList" nL) (hX : Wd D A s g n H locs) (hdg : decode cc pc = .ok (.getstatic 39, 3))
    (kk : W p l e R s m args below meth c H locs cells slots Q (F0 m (pc + 3) ls (.ref (N 4) :: rest))) : W p l e R s m args below meth c H locs cells slots Q (F0 m pc ls rest) :=
  va_gets hC.x hC.b hC.Z.2.2.2.2.2.1 hX.2.2.2.1 hC.ow (hC.ts _ q117) (fun _ z => z) hdg kk
theorem j_high (hC : Ct D T N A p s m args c cc "java/lang/Integer" nL) (hX : Wd D A s g n H locs) (hdg : decode cc pc = .ok (.getstatic 191, 3))
    (kk : W p l e R s m args below meth c H locs cells slots Q (F0 m (pc + 3) ls (.int (iI 127) :: rest))) : W p l e R s m args below meth c H locs cells slots Q (F0 m pc ls rest) :=
  va_gets hC.x hC.b hC.Z.2.2.2.2.2.2.2.1 hX.2.2.2.1 hC.ow (hC.ts _ q639) (fun _ z => z) hdg kk
theorem j_cache (hC : Ct D T N A p s m args c cc "java/lang/Integer" nL) (hX : Wd D A s g n H locs) (hdg : decode cc pc = .ok (.getstatic 195, 3))
    (kk : W p l e R s m args below meth c H locs cells slots Q (F0 m (pc + 3) ls (.ref (N 5) :: rest))) : W p l e R s m args below meth c H locs cells slots Q (F0 m pc ls rest) :=
  va_gets hC.x hC.b hC.Z.2.2.2.2.2.2.2.2.1 hX.2.2.2.1 hC.ow (hC.ts _ q641) (fun _ z => z) hdg kk
theorem j_cached (hC : Ct D T N A p s m args c cc own nL) (hX : Wd D A s g n H locs) {i : Int} (h : 0 ≤ i ∧ i < 256) (hdg : decode cc pc = .ok (.aaload, 1))
    (kk : W p l e R s m args below meth c H locs cells slots Q (F0 m (pc + 1) ls (.ref (N (6 + i.toNat)) :: rest))) : W p l e R s m args below meth c H locs cells slots Q (F0 m pc ls (.int (iI i) :: .ref (N 5) :: rest)) :=
  vb_tq hC.x hC.b hC.Z.2.2.2.2.2.2.2.2.2.1 hX.2.2.2.1 (iI_in (by omega)) (by show Value.ref (N (6 + (iI i).toNatClampNeg)) = _; rw [iI_nat (by omega) (by omega)]) hdg kk
theorem j_emlen (hC : Ct D T N A p s m args c cc own nL) (hX : Wd D A s g n H locs) (hdg : decode cc pc = .ok (.arraylength, 1))
    (kk : W p l e R s m args below meth c H locs cells slots Q (F0 m (pc + 1) ls (.int (iI 0) :: rest))) : W p l e R s m args below meth c H locs cells slots Q (F0 m pc ls (.ref (N 4) :: rest)) :=
  va_tlen hC.x hC.b hC.Z.2.2.2.2.2.2.1 hX.2.2.2.1 (v := iI 0) rfl hdg kk
end RW3
