/-! rows of bytes and shorts, by labels -/
section RW4
variable {p : Program} {l : Launch} {e : Env} {R : Room} {s : State} {m : MethodId} {args : Array Value} {below : List Frame} {meth : Method} {c : Code} {H : Heap} {locs : List Loc} {cells slots : Nat} {Q : State → Prop}
variable {cc : ByteArray} {pc : Nat} {ls : Array Slot} {rest : List Value} {D : va_G} {T N : Nat → Nat} {A : Nat → Prop} {g : GH} {n nL : Nat} {own : String} {S : LbS} {W1 : Nat → Int → Int}
theorem L_bald (hC : Ct D T N A p s m args c cc own nL) (hX : Wd D A s g n H locs) (hL : lR T g S W1) (lb : Nat) (hk : zK S lb = 4) {L : Nat} (hn : zN S lb = L) (hLr : L ≤ 2147483647) {i : Int} (h : 0 ≤ i ∧ i < L) {z : Int} (hz : W1 lb i = z) (hdg : decode cc pc = .ok (.baload, 1)) (kk : W p l e R s m args below meth c H locs cells slots Q (F0 m (pc + 1) ls (.int (iI z) :: rest))) : W p l e R s m args below meth c H locs cells slots Q (F0 m pc ls (.int (iI i) :: .ref (zB S lb) :: rest)) :=
  j_bald hC hX (hL.ai lb (t := 3) hk (by decide) hn) (by omega) hdg (hz ▸ kk)
theorem L_sald (hC : Ct D T N A p s m args c cc own nL) (hX : Wd D A s g n H locs) (hL : lR T g S W1) (lb : Nat) (hk : zK S lb = 5) {L : Nat} (hn : zN S lb = L) (hLr : L ≤ 2147483647) {i : Int} (h : 0 ≤ i ∧ i < L) {z : Int} (hz : W1 lb i = z) (hdg : decode cc pc = .ok (.saload, 1)) (kk : W p l e R s m args below meth c H locs cells slots Q (F0 m (pc + 1) ls (.int (iI z) :: rest))) : W p l e R s m args below meth c H locs cells slots Q (F0 m pc ls (.int (iI i) :: .ref (zB S lb) :: rest)) :=
  j_sald hC hX (hL.ai lb (t := 4) hk (by decide) hn) (by omega) hdg (hz ▸ kk)
theorem j_bast (hC : Ct D T N A p s m args c cc own nL) (hX : Wd D A s g n H locs) {a k : Nat} {f : Int → Int} (ha : g a = some (aI T 3 k f)) {i x : Int} (h : 0 ≤ i ∧ i < k ∧ (k : Int) ≤ 2147483647) (hx : narrow .byte (.int (iI x)) = .int (iI x)) (hdg : decode cc pc = .ok (.bastore, 1)) (kk : ∀ (H1 : Heap) (locs1 : List Loc), Wd D A s (va_up g a (some (aI T 3 k (uI f i x)))) n H1 locs1 → W p l e R s m args below meth c H1 locs1 cells slots Q (F0 m (pc + 1) ls rest)) : W p l e R s m args below meth c H locs cells slots Q (F0 m pc ls (.int (iI x) :: .int (iI i) :: .ref a :: rest)) := by
  have hin : vp_in (iI i) k := iI_in (by omega)
  refine W.bast hC.x hC.b (hX.2.1 _ _ ha) ((hC.K.2 3 _ rfl).1 k (fun j => .int (vI f j))) (fun q => by cases q) (by show ¬ (_ < 0 ∨ (arrV _ _ _).slots.size ≤ _); rw [arrV_size]; exact hin) rfl rfl hdg fun H1 e z oq => ?_
  refine kk H1 _ (hX.put ha ?_ z oq)
  show H1[a]? = some (vp_cell _ _)
  rw [e, vp_cell_i, vp_cell_i, arrV_store, ← vI_up f (by omega)]
  congr 2
  funext q
  by_cases hq : q = (iI i).toNatClampNeg
  · subst hq
    simp [updV, upd, hx]
  · simp [updV, upd, hq]
theorem j_sast (hC : Ct D T N A p s m args c cc own nL) (hX : Wd D A s g n H locs) {a k : Nat} {f : Int → Int} (ha : g a = some (aI T 4 k f)) {i x : Int} (h : 0 ≤ i ∧ i < k ∧ (k : Int) ≤ 2147483647) (hx : narrow .short (.int (iI x)) = .int (iI x)) (hdg : decode cc pc = .ok (.sastore, 1)) (kk : ∀ (H1 : Heap) (locs1 : List Loc), Wd D A s (va_up g a (some (aI T 4 k (uI f i x)))) n H1 locs1 → W p l e R s m args below meth c H1 locs1 cells slots Q (F0 m (pc + 1) ls rest)) : W p l e R s m args below meth c H locs cells slots Q (F0 m pc ls (.int (iI x) :: .int (iI i) :: .ref a :: rest)) := by
  have hin : vp_in (iI i) k := iI_in (by omega)
  refine W.sast hC.x hC.b (hX.2.1 _ _ ha) ((hC.K.2 4 _ rfl).1 k (fun j => .int (vI f j))) (fun q => by cases q) (by show ¬ (_ < 0 ∨ (arrV _ _ _).slots.size ≤ _); rw [arrV_size]; exact hin) rfl rfl hdg fun H1 e z oq => ?_
  refine kk H1 _ (hX.put ha ?_ z oq)
  show H1[a]? = some (vp_cell _ _)
  rw [e, vp_cell_i, vp_cell_i, arrV_store, ← vI_up f (by omega)]
  congr 2
  funext q
  by_cases hq : q = (iI i).toNatClampNeg
  · subst hq
    simp [updV, upd, hx]
  · simp [updV, upd, hq]
theorem L_bast (hC : Ct D T N A p s m args c cc own nL) (hX : Wd D A s g n H locs) (hL : lR T g S W1) (lb : Nat) (hk : zK S lb = 4) {L : Nat} (hn : zN S lb = L) (hLr : L ≤ 2147483647) {i x : Int} (h : 0 ≤ i ∧ i < L) (hx : narrow .byte (.int (iI x)) = .int (iI x)) (hdg : decode cc pc = .ok (.bastore, 1)) (kk : ∀ (g' : GH) (H1 : Heap) (locs1 : List Loc), Wd D A s g' n H1 locs1 → lR T g' S (va_up W1 lb (uI (W1 lb) i x)) → W p l e R s m args below meth c H1 locs1 cells slots Q (F0 m (pc + 1) ls rest)) : W p l e R s m args below meth c H locs cells slots Q (F0 m pc ls (.int (iI x) :: .int (iI i) :: .ref (zB S lb) :: rest)) :=
  j_bast hC hX (hL.ai lb (t := 3) hk (by decide) hn) (by omega) hx hdg (fun H1 locs1 hX1 => kk _ H1 locs1 hX1 (hL.ui lb (t := 3) hk (by decide) hn _))
theorem L_sast (hC : Ct D T N A p s m args c cc own nL) (hX : Wd D A s g n H locs) (hL : lR T g S W1) (lb : Nat) (hk : zK S lb = 5) {L : Nat} (hn : zN S lb = L) (hLr : L ≤ 2147483647) {i x : Int} (h : 0 ≤ i ∧ i < L) (hx : narrow .short (.int (iI x)) = .int (iI x)) (hdg : decode cc pc = .ok (.sastore, 1)) (kk : ∀ (g' : GH) (H1 : Heap) (locs1 : List Loc), Wd D A s g' n H1 locs1 → lR T g' S (va_up W1 lb (uI (W1 lb) i x)) → W p l e R s m args below meth c H1 locs1 cells slots Q (F0 m (pc + 1) ls rest)) : W p l e R s m args below meth c H locs cells slots Q (F0 m pc ls (.int (iI x) :: .int (iI i) :: .ref (zB S lb) :: rest)) :=
  j_sast hC hX (hL.ai lb (t := 4) hk (by decide) hn) (by omega) hx hdg (fun H1 locs1 hX1 => kk _ H1 locs1 hX1 (hL.ui lb (t := 4) hk (by decide) hn _))
end RW4
