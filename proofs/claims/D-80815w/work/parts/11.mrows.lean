/-! THE MODEL's cells: the object at m, its arrays at m + 1 .. m + 26; F its int fields by their places, V its arrays by their offsets -/
def off (g g' : GH) (m k : Nat) : Prop := ∀ a, (a < m ∨ m + k ≤ a) → g' a = g a
theorem off.rf {g : GH} {m k : Nat} : off g g m k := fun _ _ => rfl
theorem off.tr {g g1 g2 : GH} {m k : Nat} (h1 : off g g1 m k) (h2 : off g1 g2 m k) : off g g2 m k := fun a h => (h2 a h).trans (h1 a h)
theorem off.up {g g1 : GH} {m k j : Nat} (h1 : off g g1 m k) (e : Option va_E) (hj : j < k) : off g (va_up g1 (m + j) e) m k := fun a h => (va_up_ne g1 e (by omega)).trans (h1 a h)
def mF (m : Nat) (F : Nat → Int) : List Value := [.int (iI (F 0)), .ref (m + 1), .ref (m + 2), .int (iI (F 3)), .int (iI (F 4)), .int (iI (F 5)), .ref (m + 3), .ref (m + 4), .int (iI (F 8)), .int (iI (F 9)), .ref (m + 5), .ref (m + 6), .ref (m + 7), .int (iI (F 13)), .ref (m + 8), .ref (m + 9), .int (iI (F 16)), .ref (m + 10), .ref (m + 11), .ref (m + 12), .ref (m + 13), .ref (m + 14), .ref (m + 15), .int (iI (F 23)), .ref (m + 16), .int (iI (F 25)), .ref (m + 17), .int (iI (F 27)), .int (iI (F 28)), .ref (m + 18), .int (iI (F 30)), .int (iI (F 31)), .ref (m + 19), .ref (m + 20), .ref (m + 21), .ref (m + 22), .ref (m + 23), .ref (m + 24), .ref (m + 25), .ref (m + 26), .int (iI (F 40))]
def mLen (k : Nat) : Nat := match k with
  | 1 => 96 | 2 => 6 | 3 => 6 | 4 => 6 | 5 => 6 | 6 => 6 | 7 => 6 | 8 => 400 | 9 => 400 | 10 => 800 | 11 => 800 | 12 => 2048 | 13 => 3 | 14 => 7 | 15 => 252 | 16 => 24 | 17 => 18 | 18 => 12 | 19 => 27 | 20 => 3 | 21 => 6 | 22 => 6 | 23 => 4 | 24 => 4 | 25 => 240 | _ => 60
def mKd (k : Nat) : Nat := match k with
  | 7 => 2 | 8 => 1 | 9 => 1 | 10 => 1 | 11 => 1 | 13 => 1 | 14 => 1 | 15 => 1 | 16 => 1 | _ => 0
def mA (T : Nat → Nat) (V : Nat → Int → Int) (k : Nat) : va_E := if mKd k = 1 then aL T (mLen k) (V k) else aI T (mKd k) (mLen k) (V k)
def mC (T : Nat → Nat) (m : Nat) (F : Nat → Int) (V : Nat → Int → Int) (k : Nat) : va_E := if k = 0 then oB 3 (mF m F) else mA T V k
def mR (T : Nat → Nat) (g : GH) (m : Nat) (F : Nat → Int) (V : Nat → Int → Int) : Prop := ∀ k, k < 27 → g (m + k) = some (mC T m F V k)
theorem mR.ob {T : Nat → Nat} {g : GH} {m : Nat} {F : Nat → Int} {V : Nat → Int → Int} (h : mR T g m F V) : g m = some (oB 3 (mF m F)) := h 0 (by decide)
theorem mR.ai {T : Nat → Nat} {g : GH} {m : Nat} {F : Nat → Int} {V : Nat → Int → Int} (h : mR T g m F V) (k : Nat) {j n : Nat} (hk : 0 < k ∧ k < 27) (hj : mKd k = j ∧ j ≠ 1) (hn : mLen k = n) : g (m + k) = some (aI T j n (V k)) := by
  rw [h k hk.2]
  unfold mC mA
  rw [if_neg (by omega), if_neg (by omega), hj.1, hn]
theorem mR.al {T : Nat → Nat} {g : GH} {m : Nat} {F : Nat → Int} {V : Nat → Int → Int} (h : mR T g m F V) (k : Nat) {n : Nat} (hk : 0 < k ∧ k < 27) (hj : mKd k = 1) (hn : mLen k = n) : g (m + k) = some (aL T n (V k)) := by
  rw [h k hk.2]
  unfold mC mA
  rw [if_neg (by omega), if_pos hj, hn]
theorem mR.up {T : Nat → Nat} {g : GH} {m : Nat} {F : Nat → Int} {V : Nat → Int → Int} (h : mR T g m F V) (k : Nat) (f : Int → Int) (hk : 0 < k ∧ k < 27) {e : va_E} (he : mA T (va_up V k f) k = e) : mR T (va_up g (m + k) (some e)) m F (va_up V k f) := by
  intro j hj
  by_cases q : j = k
  · subst q
    rw [va_up_self]
    unfold mC
    rw [if_neg (by omega), he]
  · rw [va_up_ne _ _ (by omega), h j hj]
    unfold mC mA
    rw [va_up_ne _ _ q]
theorem mR.upi {T : Nat → Nat} {g : GH} {m : Nat} {F : Nat → Int} {V : Nat → Int → Int} (h : mR T g m F V) (k : Nat) (f : Int → Int) {j n : Nat} (hk : 0 < k ∧ k < 27) (hj : mKd k = j ∧ j ≠ 1) (hn : mLen k = n) : mR T (va_up g (m + k) (some (aI T j n f))) m F (va_up V k f) :=
  h.up k f hk (by unfold mA; rw [if_neg (by omega), hj.1, hn, va_up_self])
theorem mR.upl {T : Nat → Nat} {g : GH} {m : Nat} {F : Nat → Int} {V : Nat → Int → Int} (h : mR T g m F V) (k : Nat) (f : Int → Int) {n : Nat} (hk : 0 < k ∧ k < 27) (hj : mKd k = 1) (hn : mLen k = n) : mR T (va_up g (m + k) (some (aL T n f))) m F (va_up V k f) :=
  h.up k f hk (by unfold mA; rw [if_pos hj, hn, va_up_self])
def mInts : List Nat := [0, 3, 4, 5, 8, 9, 13, 16, 23, 25, 27, 28, 30, 31, 40]
theorem mF_put {m : Nat} {F : Nat → Int} {k : Nat} {z : Int} (hk : k ∈ mInts) : (mF m F).set k (.int (iI z)) = mF m (va_up F k z) := by
  simp only [mInts, List.mem_cons, List.not_mem_nil, or_false] at hk
  rcases hk with rfl | rfl | rfl | rfl | rfl | rfl | rfl | rfl | rfl | rfl | rfl | rfl | rfl | rfl | rfl <;> rfl
theorem mR.put {T : Nat → Nat} {g : GH} {m : Nat} {F : Nat → Int} {V : Nat → Int → Int} (h : mR T g m F V) (F' : Nat → Int) : mR T (va_up g m (some (oB 3 (mF m F')))) m F' V := by
  intro j hj
  by_cases q : j = 0
  · subst q
    show va_up g m _ m = _
    rw [va_up_self]
    rfl
  · rw [va_up_ne _ _ (by omega), h j hj]
    unfold mC
    rw [if_neg q, if_neg q]
/-- other cells don't matter -/
theorem mR.ag {T : Nat → Nat} {g g' : GH} {m : Nat} {F : Nat → Int} {V : Nat → Int → Int} (h : mR T g m F V) (hg : ∀ a, m ≤ a → a < m + 27 → g' a = g a) : mR T g' m F V := fun k hk => by rw [hg (m + k) (by omega) (by omega)]; exact h k hk
/-- a family changed at some places alone -/
def ch {α : Type} (f f' : Nat → α) (ks : List Nat) : Prop := ∀ j, j ∉ ks → f' j = f j
theorem ch.rf {α : Type} {f : Nat → α} {ks : List Nat} : ch f f ks := fun _ _ => rfl
theorem ch.up {α : Type} {f f' : Nat → α} {ks : List Nat} (h : ch f f' ks) (k : Nat) (x : α) (hk : k ∈ ks) : ch f (va_up f' k x) ks := fun j hj => (va_up_ne f' x (show j ≠ k from fun q => hj (q ▸ hk))).trans (h j hj)
theorem ch.tr {α : Type} {f f1 f2 : Nat → α} {ks k1 k2 : List Nat} (h1 : ch f f1 k1) (h2 : ch f1 f2 k2) (hk : (k1.all (fun k => ks.contains k) && k2.all (fun k => ks.contains k)) = true) : ch f f2 ks := fun j hj => by
  simp only [Bool.and_eq_true, List.all_eq_true, List.contains_iff_mem] at hk
  exact (h2 j (fun q => hj (hk.2 j q))).trans (h1 j (fun q => hj (hk.1 j q)))
section MR
variable {p : Program} {l : Launch} {e : Env} {R : Room} {s : State} {mi : MethodId} {args : Array Value} {below : List Frame} {meth : Method} {c : Code} {H : Heap} {locs : List Loc} {cells slots : Nat} {Q : State → Prop}
variable {cc : ByteArray} {pc : Nat} {ls : Array Slot} {rest : List Value} {D : va_G} {T N : Nat → Nat} {A : Nat → Prop} {g g0 : GH} {n nL m : Nat} {own : String} {F : Nat → Int} {V : Nat → Int → Int}
theorem M_get (hC : Ct D T N A p s mi args c cc RX3 nL) (hX : Wd D A s g n H locs) (hM : mR T g m F V) (k : Nat) (hk : k < 41) {index : Nat} (hlink : (Cond.fieldLink RX3 index RX3 (TX3 k).2.1 (TX3 k).2.2.1) ∈ lw_all) (hsame : (TX3 k).1 = RX3) {v : Value} (hv : (mF m F)[k]? = some v) (hdg : decode cc pc = .ok (.getfield index, 3))
    (kk : W p l e R s mi args below meth c H locs cells slots Q (F0 mi (pc + 3) ls (v :: rest))) : W p l e R s mi args below meth c H locs cells slots Q (F0 mi pc ls (.ref m :: rest)) :=
  j_get hC hX in_X3 (ci := 3) rfl hM.ob k hk hlink hsame hv hdg kk
theorem M_put (hC : Ct D T N A p s mi args c cc RX3 nL) (hX : Wd D A s g n H locs) (hM : mR T g m F V) (ho : off g0 g m 27) (k : Nat) (hk : k ∈ mInts ∧ k < 41 ∧ tyX3 k = .int ∧ (TX3 k).2.2.2 = false) {index : Nat} (hlink : (Cond.fieldLink RX3 index RX3 (TX3 k).2.1 (TX3 k).2.2.1) ∈ lw_all) (hsame : (TX3 k).1 = RX3) {z : Int} (hdg : decode cc pc = .ok (.putfield index, 3))
    (kk : ∀ (g' : GH) (H1 : Heap) (locs1 : List Loc), Wd D A s g' n H1 locs1 → mR T g' m (va_up F k z) V → off g0 g' m 27 → W p l e R s mi args below meth c H1 locs1 cells slots Q (F0 mi (pc + 3) ls rest)) : W p l e R s mi args below meth c H locs cells slots Q (F0 mi pc ls (.int (iI z) :: .ref m :: rest)) :=
  j_put hC hX in_X3 tyX3 tyX3_ok nmX3 (ci := 3) rfl hM.ob k hk.2.1 hlink hsame hk.2.2.2 (by rw [hk.2.2.1]; rfl) (by rw [hk.2.2.1]; rfl) hk.2.1 (mF_put hk.1) hdg (fun H1 locs1 hX1 => kk _ H1 locs1 hX1 (hM.put _) (ho.up (j := 0) _ (by decide)))
theorem M_iald (hC : Ct D T N A p s mi args c cc own nL) (hX : Wd D A s g n H locs) (hM : mR T g m F V) (k : Nat) (hk : (0 < k ∧ k < 27) ∧ mKd k = 0) {L : Nat} (hL : mLen k = L ∧ L ≤ 2048) {i : Int} (h : 0 ≤ i ∧ i < L) {z : Int} (hz : V k i = z) (hdg : decode cc pc = .ok (.iaload, 1)) (kk : W p l e R s mi args below meth c H locs cells slots Q (F0 mi (pc + 1) ls (.int (iI z) :: rest))) : W p l e R s mi args below meth c H locs cells slots Q (F0 mi pc ls (.int (iI i) :: .ref (m + k) :: rest)) :=
  j_iald hC hX (hM.ai k hk.1 ⟨hk.2, by decide⟩ hL.1) (by omega) hdg (hz ▸ kk)
theorem M_zald (hC : Ct D T N A p s mi args c cc own nL) (hX : Wd D A s g n H locs) (hM : mR T g m F V) {i : Int} (h : 0 ≤ i ∧ i < 6) {z : Int} (hz : V 7 i = z) (hdg : decode cc pc = .ok (.baload, 1)) (kk : W p l e R s mi args below meth c H locs cells slots Q (F0 mi (pc + 1) ls (.int (iI z) :: rest))) : W p l e R s mi args below meth c H locs cells slots Q (F0 mi pc ls (.int (iI i) :: .ref (m + 7) :: rest)) :=
  j_zald hC hX (hM.ai 7 (n := 6) (by decide) (by decide) rfl) (by omega) hdg (hz ▸ kk)
theorem M_lald (hC : Ct D T N A p s mi args c cc own nL) (hX : Wd D A s g n H locs) (hM : mR T g m F V) (k : Nat) (hk : (0 < k ∧ k < 27) ∧ mKd k = 1) {L : Nat} (hL : mLen k = L ∧ L ≤ 2048) {i : Int} (h : 0 ≤ i ∧ i < L) {z : Int} (hz : V k i = z) (hdg : decode cc pc = .ok (.laload, 1)) (kk : W p l e R s mi args below meth c H locs cells slots Q (F0 mi (pc + 1) ls (.long (lI z) :: rest))) : W p l e R s mi args below meth c H locs cells slots Q (F0 mi pc ls (.int (iI i) :: .ref (m + k) :: rest)) :=
  j_lald hC hX (hM.al k hk.1 hk.2 hL.1) (by omega) hdg (hz ▸ kk)
theorem M_iast (hC : Ct D T N A p s mi args c cc own nL) (hX : Wd D A s g n H locs) (hM : mR T g m F V) (ho : off g0 g m 27) (k : Nat) (hk : (0 < k ∧ k < 27) ∧ mKd k = 0) {L : Nat} (hL : mLen k = L ∧ L ≤ 2048) {i x : Int} (h : 0 ≤ i ∧ i < L) (hdg : decode cc pc = .ok (.iastore, 1)) (kk : ∀ (g' : GH) (H1 : Heap) (locs1 : List Loc), Wd D A s g' n H1 locs1 → mR T g' m F (va_up V k (uI (V k) i x)) → off g0 g' m 27 → W p l e R s mi args below meth c H1 locs1 cells slots Q (F0 mi (pc + 1) ls rest)) : W p l e R s mi args below meth c H locs cells slots Q (F0 mi pc ls (.int (iI x) :: .int (iI i) :: .ref (m + k) :: rest)) :=
  j_iast hC hX (hM.ai k hk.1 ⟨hk.2, by decide⟩ hL.1) (by omega) hdg (fun H1 locs1 hX1 => kk _ H1 locs1 hX1 (hM.upi k _ hk.1 ⟨hk.2, by decide⟩ hL.1) (ho.up _ hk.1.2))
theorem M_zast (hC : Ct D T N A p s mi args c cc own nL) (hX : Wd D A s g n H locs) (hM : mR T g m F V) (ho : off g0 g m 27) {i x : Int} (h : 0 ≤ i ∧ i < 6) (hx : x = 0 ∨ x = 1) (hdg : decode cc pc = .ok (.bastore, 1)) (kk : ∀ (g' : GH) (H1 : Heap) (locs1 : List Loc), Wd D A s g' n H1 locs1 → mR T g' m F (va_up V 7 (uI (V 7) i x)) → off g0 g' m 27 → W p l e R s mi args below meth c H1 locs1 cells slots Q (F0 mi (pc + 1) ls rest)) : W p l e R s mi args below meth c H locs cells slots Q (F0 mi pc ls (.int (iI x) :: .int (iI i) :: .ref (m + 7) :: rest)) :=
  j_zast hC hX (hM.ai 7 (n := 6) (by decide) (by decide) rfl) (by omega) hx hdg (fun H1 locs1 hX1 => kk _ H1 locs1 hX1 (hM.upi 7 _ (n := 6) (by decide) (by decide) rfl) (ho.up _ (by decide)))
theorem M_last (hC : Ct D T N A p s mi args c cc own nL) (hX : Wd D A s g n H locs) (hM : mR T g m F V) (ho : off g0 g m 27) (k : Nat) (hk : (0 < k ∧ k < 27) ∧ mKd k = 1) {L : Nat} (hL : mLen k = L ∧ L ≤ 2048) {i x : Int} (h : 0 ≤ i ∧ i < L) (hdg : decode cc pc = .ok (.lastore, 1)) (kk : ∀ (g' : GH) (H1 : Heap) (locs1 : List Loc), Wd D A s g' n H1 locs1 → mR T g' m F (va_up V k (uI (V k) i x)) → off g0 g' m 27 → W p l e R s mi args below meth c H1 locs1 cells slots Q (F0 mi (pc + 1) ls rest)) : W p l e R s mi args below meth c H locs cells slots Q (F0 mi pc ls (.long (lI x) :: .int (iI i) :: .ref (m + k) :: rest)) :=
  j_last hC hX (hM.al k hk.1 hk.2 hL.1) (by omega) hdg (fun H1 locs1 hX1 => kk _ H1 locs1 hX1 (hM.upl k _ hk.1 hk.2 hL.1) (ho.up _ hk.1.2))
end MR
/-- contracts of the model's methods: they make nothing, and write their own cells alone -/
def MMi (D : va_G) (T N : Nat → Nat) (l : Launch) (y : MethodName) (ws : List Cond) (rm : Room) (m : Nat) (As : List Value) (F : Nat → Int) (V : Nat → Int → Int) (post : Int → (Nat → Int) → (Nat → Int → Int) → Prop) : Prop :=
  ∀ (g : GH) (n : Nat), mR T g m F V → Met l y ws rm (gPc D T N (.ref m :: As) g n) (gQi D g n (fun r g' n' => n' = n ∧ ∃ F' V', mR T g' m F' V' ∧ off g g' m 27 ∧ post r F' V')) 0 0 (gA g n)
def MMl (D : va_G) (T N : Nat → Nat) (l : Launch) (y : MethodName) (ws : List Cond) (rm : Room) (m : Nat) (As : List Value) (F : Nat → Int) (V : Nat → Int → Int) (post : Int → (Nat → Int) → (Nat → Int → Int) → Prop) : Prop :=
  ∀ (g : GH) (n : Nat), mR T g m F V → Met l y ws rm (gPc D T N (.ref m :: As) g n) (gQl D g n (fun r g' n' => n' = n ∧ ∃ F' V', mR T g' m F' V' ∧ off g g' m 27 ∧ post r F' V')) 0 0 (gA g n)
def MMv (D : va_G) (T N : Nat → Nat) (l : Launch) (y : MethodName) (ws : List Cond) (rm : Room) (m : Nat) (As : List Value) (F : Nat → Int) (V : Nat → Int → Int) (post : (Nat → Int) → (Nat → Int → Int) → Prop) : Prop :=
  ∀ (g : GH) (n : Nat), mR T g m F V → Met l y ws rm (gPc D T N (.ref m :: As) g n) (gQv D g n (fun g' n' => n' = n ∧ ∃ F' V', mR T g' m F' V' ∧ off g g' m 27 ∧ post F' V')) 0 0 (gA g n)
/-- static methods that touch no cell -/
def SSi (D : va_G) (T N : Nat → Nat) (l : Launch) (y : MethodName) (ws : List Cond) (rm : Room) (As : List Value) (post : Int → Prop) : Prop :=
  ∀ (g : GH) (n : Nat), Met l y ws rm (gPc D T N As g n) (gQi D g n (fun r g' n' => n' = n ∧ g' = g ∧ post r)) 0 0 (gA g n)
def SSl (D : va_G) (T N : Nat → Nat) (l : Launch) (y : MethodName) (ws : List Cond) (rm : Room) (As : List Value) (post : Int → Prop) : Prop :=
  ∀ (g : GH) (n : Nat), Met l y ws rm (gPc D T N As g n) (gQl D g n (fun r g' n' => n' = n ∧ g' = g ∧ post r)) 0 0 (gA g n)
section MCL
variable {p : Program} {l : Launch} {e : Env} {R : Room} {s : State} {mi : MethodId} {args : Array Value} {below : List Frame} {meth : Method} {c : Code} {H : Heap} {locs : List Loc} {cells slots : Nat} {Q : State → Prop}
variable {cc bytes : ByteArray} {pc maxL index k : Nat} {ret : Option FieldType} {ls : Array Slot} {rest As : List Value} {D : va_G} {T N : Nat → Nat} {A : Nat → Prop} {g g0 : GH} {n nL m : Nat} {own C : String} {F : Nat → Int} {V : Nat → Int → Int} {y : MethodName} {ws : List Cond} {rm : Room}
theorem S_calli {post : Int → Prop} (hC : Ct D T N A p s mi args c cc own nL) (hX : Wd D A s g n H locs) (hS : SSi D T N l y ws rm As post) (cw : CallB R s args own index y bytes maxL ret ws rm 0 0 k ∧ (Cond.static y).before args s = true) (hk : As.length = k) (hsz : ls.size = nL) (hW : 2 * 0 + (rest.map fun v => v.category).sum ≤ 8) (hdg : decode cc pc = .ok (.invokestatic index, 3)) (hf : cells ≤ R.cells ∧ slots ≤ R.slots)
    (kk : ∀ (r : Int) (H1 : Heap) (locs1 : List Loc), post r → Wd D A s g n H1 locs1 → W p l e R s mi args below meth c H1 locs1 cells slots Q (F0 mi (pc + 3) ls (.int (iI r) :: rest))) : W p l e R s mi args below meth c H locs cells slots Q (F0 mi pc ls (As.reverse ++ rest)) :=
  j_calli hX (va_runS hC.fix (hS g n) cw (j_preS hC hX As) rfl hk hsz rfl hW hdg hf) (fun r g' n' H1 locs1 hp _ hX1 => by
    obtain ⟨rfl, rfl, hp⟩ := hp
    exact kk r H1 locs1 hp hX1)
theorem S_calll {post : Int → Prop} (hC : Ct D T N A p s mi args c cc own nL) (hX : Wd D A s g n H locs) (hS : SSl D T N l y ws rm As post) (cw : CallB R s args own index y bytes maxL ret ws rm 0 0 k ∧ (Cond.static y).before args s = true) (hk : As.length = k) (hsz : ls.size = nL) (hW : 2 * 0 + (rest.map fun v => v.category).sum ≤ 8) (hdg : decode cc pc = .ok (.invokestatic index, 3)) (hf : cells ≤ R.cells ∧ slots ≤ R.slots)
    (kk : ∀ (r : Int) (H1 : Heap) (locs1 : List Loc), post r → Wd D A s g n H1 locs1 → W p l e R s mi args below meth c H1 locs1 cells slots Q (F0 mi (pc + 3) ls (.long (lI r) :: rest))) : W p l e R s mi args below meth c H locs cells slots Q (F0 mi pc ls (As.reverse ++ rest)) :=
  j_calll hX (va_runS hC.fix (hS g n) cw (j_preS hC hX As) rfl hk hsz rfl hW hdg hf) (fun r g' n' H1 locs1 hp _ hX1 => by
    obtain ⟨rfl, rfl, hp⟩ := hp
    exact kk r H1 locs1 hp hX1)
theorem M_calli {post : Int → (Nat → Int) → (Nat → Int → Int) → Prop} (hC : Ct D T N A p s mi args c cc own nL) (hX : Wd D A s g n H locs) (hM : mR T g m F V) (ho : off g0 g m 27) (hS : MMi D T N l y ws rm m As F V post) (cw : CallW R s args own RX3 index y bytes maxL ret ws rm 0 0 k) (hk : As.length = k) (hsz : ls.size = nL) (hW : 2 * 0 + (rest.map fun v => v.category).sum ≤ 8) (hdg : decode cc pc = .ok (.invokevirtual index, 3)) (hf : cells ≤ R.cells ∧ slots ≤ R.slots)
    (kk : ∀ (r : Int) (F' : Nat → Int) (V' : Nat → Int → Int) (g' : GH) (H1 : Heap) (locs1 : List Loc), post r F' V' → Wd D A s g' n H1 locs1 → mR T g' m F' V' → off g0 g' m 27 → W p l e R s mi args below meth c H1 locs1 cells slots Q (F0 mi (pc + 3) ls (.int (iI r) :: rest))) : W p l e R s mi args below meth c H locs cells slots Q (F0 mi pc ls (As.reverse ++ .ref m :: rest)) :=
  j_calli hX (va_runV hC.fix (hS g n hM) cw (j_preV hC hX hM.ob (ci := 3) (r := (RX3, TX3, 41)) rfl As) rfl hk hsz rfl hW hdg hf) (fun r g' n' H1 locs1 hp _ hX1 => by
    obtain ⟨rfl, F', V', h1, h2, h3⟩ := hp
    exact kk r F' V' g' H1 locs1 h3 hX1 h1 (ho.tr h2))
theorem M_calll {post : Int → (Nat → Int) → (Nat → Int → Int) → Prop} (hC : Ct D T N A p s mi args c cc own nL) (hX : Wd D A s g n H locs) (hM : mR T g m F V) (ho : off g0 g m 27) (hS : MMl D T N l y ws rm m As F V post) (cw : CallW R s args own RX3 index y bytes maxL ret ws rm 0 0 k) (hk : As.length = k) (hsz : ls.size = nL) (hW : 2 * 0 + (rest.map fun v => v.category).sum ≤ 8) (hdg : decode cc pc = .ok (.invokevirtual index, 3)) (hf : cells ≤ R.cells ∧ slots ≤ R.slots)
    (kk : ∀ (r : Int) (F' : Nat → Int) (V' : Nat → Int → Int) (g' : GH) (H1 : Heap) (locs1 : List Loc), post r F' V' → Wd D A s g' n H1 locs1 → mR T g' m F' V' → off g0 g' m 27 → W p l e R s mi args below meth c H1 locs1 cells slots Q (F0 mi (pc + 3) ls (.long (lI r) :: rest))) : W p l e R s mi args below meth c H locs cells slots Q (F0 mi pc ls (As.reverse ++ .ref m :: rest)) :=
  j_calll hX (va_runV hC.fix (hS g n hM) cw (j_preV hC hX hM.ob (ci := 3) (r := (RX3, TX3, 41)) rfl As) rfl hk hsz rfl hW hdg hf) (fun r g' n' H1 locs1 hp _ hX1 => by
    obtain ⟨rfl, F', V', h1, h2, h3⟩ := hp
    exact kk r F' V' g' H1 locs1 h3 hX1 h1 (ho.tr h2))
theorem M_callv {post : (Nat → Int) → (Nat → Int → Int) → Prop} (hC : Ct D T N A p s mi args c cc own nL) (hX : Wd D A s g n H locs) (hM : mR T g m F V) (ho : off g0 g m 27) (hS : MMv D T N l y ws rm m As F V post) (cw : CallW R s args own RX3 index y bytes maxL ret ws rm 0 0 k) (hk : As.length = k) (hsz : ls.size = nL) (hW : 2 * 0 + (rest.map fun v => v.category).sum ≤ 8) (hdg : decode cc pc = .ok (.invokevirtual index, 3)) (hf : cells ≤ R.cells ∧ slots ≤ R.slots)
    (kk : ∀ (F' : Nat → Int) (V' : Nat → Int → Int) (g' : GH) (H1 : Heap) (locs1 : List Loc), post F' V' → Wd D A s g' n H1 locs1 → mR T g' m F' V' → off g0 g' m 27 → W p l e R s mi args below meth c H1 locs1 cells slots Q (F0 mi (pc + 3) ls rest)) : W p l e R s mi args below meth c H locs cells slots Q (F0 mi pc ls (As.reverse ++ .ref m :: rest)) :=
  j_callv hX (va_runV hC.fix (hS g n hM) cw (j_preV hC hX hM.ob (ci := 3) (r := (RX3, TX3, 41)) rfl As) rfl hk hsz rfl hW hdg hf) (fun g' n' H1 locs1 hp _ hX1 => by
    obtain ⟨rfl, F', V', h1, h2, h3⟩ := hp
    exact kk F' V' g' H1 locs1 h3 hX1 h1 (ho.tr h2))
end MCL
/-! small answers -/
def inF (v a b : Int) : Int := if a ≤ v ∧ v ≤ b then 1 else 0
theorem inF_of {r v a b : Int} (h : r = inF v a b) : (r = 1 ∧ a ≤ v ∧ v ≤ b) ∨ (r = 0 ∧ (v < a ∨ b < v)) := by
  unfold inF at h
  split at h
  · exact Or.inl ⟨h, by omega, by omega⟩
  · exact Or.inr ⟨h, by omega⟩
theorem inF_1 {v a b : Int} (h : a ≤ v ∧ v ≤ b) : inF v a b = 1 := if_pos h
theorem inF_0 {v a b : Int} (h : v < a ∨ b < v) : inF v a b = 0 := if_neg (by omega)
/-- what a number of a fighter may be -/
def numF (w v : Int) : Int := if w = 0 then inF v 0 2 else if w = 1 then inF v 1 20 else if w = 2 then inF v 0 6 else if w = 3 then inF v 1 9 else if w = 4 then inF v 0 19 else inF v 0 9
theorem numF_of {r w v : Int} (h : r = numF w v) : r = 0 ∨ r = 1 := by
  have h1 : ∀ a b, inF v a b = 0 ∨ inF v a b = 1 := fun a b => by rcases inF_of (rfl : inF v a b = _) with q | q <;> omega
  unfold numF at h
  split at h
  · rw [h]; exact h1 _ _
  split at h
  · rw [h]; exact h1 _ _
  split at h
  · rw [h]; exact h1 _ _
  split at h
  · rw [h]; exact h1 _ _
  split at h
  · rw [h]; exact h1 _ _
  · rw [h]; exact h1 _ _
theorem numF_rg {w v : Int} (h : numF w v = 1) : 0 ≤ v ∧ v ≤ 20 := by
  have h1 : ∀ a b, inF v a b = 1 → 0 ≤ a → b ≤ 20 → 0 ≤ v ∧ v ≤ 20 := fun a b q _ _ => by rcases inF_of q.symm with z | z <;> omega
  unfold numF at h
  split at h
  · exact h1 _ _ h (by decide) (by decide)
  split at h
  · exact h1 _ _ h (by decide) (by decide)
  split at h
  · exact h1 _ _ h (by decide) (by decide)
  split at h
  · exact h1 _ _ h (by decide) (by decide)
  split at h
  · exact h1 _ _ h (by decide) (by decide)
  · exact h1 _ _ h (by decide) (by decide)
