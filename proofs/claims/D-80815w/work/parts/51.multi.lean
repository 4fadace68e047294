/-! A TABLE OF LONGS, made at one stroke: 6 rows of 42 (multianewarray), as labels 215 and 216.. -/
theorem Wd.news {D : va_G} {A : Nat → Prop} {s : State} {g : GH} {n : Nat} {H H1 : Heap} {locs : List Loc} (h : Wd D A s g n H locs) {g' : GH} {n' : Nat} (hz : H1.size = n') (hnn : n ≤ n') (oq : ∀ q : Nat, q < n → H1[q]? = H[q]?) (hg : ∀ a e, g' a = some e → g a = some e ∨ (n ≤ a ∧ va_at D CL (a, e) H1)) : Wd D A s g' n' H1 locs := by
  have hlt := fun (b : Nat) (x : va_E) (q : g b = some x) => h.lt q
  obtain ⟨h1, h2, h3, h4, h5⟩ := h
  refine ⟨hz, fun b x hb => ?_, fun b hb => ?_, ⟨by rw [hz]; exact Nat.le_trans h4.1 (by omega), fun q z1 z2 => (oq q (by rw [← h1]; exact Nat.lt_of_lt_of_le z1 h4.1)).trans (h4.2.1 q z1 z2), h4.2.2⟩, h5⟩
  · rcases hg b x hb with q | ⟨-, q⟩
    · exact (h2 b x q).kept (oq b (hlt b x q))
    · exact q
  · cases e : g' b with
    | none => exact absurd e hb
    | some x =>
      rcases hg b x e with q | ⟨q, -⟩
      · exact h3 b (by rw [q]; exact fun z => by cases z)
      · exact h5 b (Nat.le_trans h4.1 (by rw [h1]; exact q))
theorem va_up_or {α : Type} {f : Nat → Option α} {k : Nat} {v : α} {a : Nat} {e : α} (h : va_up f k (some v) a = some e) : (a = k ∧ v = e) ∨ (a ≠ k ∧ f a = some e) := by
  by_cases q : a = k
  · subst q
    rw [va_up_self] at h
    exact Or.inl ⟨rfl, Option.some.inj h⟩
  · rw [va_up_ne _ _ q] at h
    exact Or.inr ⟨q, h⟩
theorem outer_at (cA : ClassId) (M h0 : Nat) : ∀ i, Jvm.Free.Multi.outerC cA M h0 i = arrV cA M (fun j => if j < i then .ref (h0 + 1 + j) else .null)
  | 0 => by
    show ({ cls := cA, slots := Array.replicate M .null, vm := .none } : Cell) = _
    rw [arrV_new]
    rfl
  | i + 1 => by
    show (Jvm.Free.Multi.outerC cA M h0 i).setSlot i (.ref (h0 + 1 + i)) = _
    rw [outer_at cA M h0 i, arrV_store]
    congr 1
    funext j
    unfold updV
    by_cases q : j = i
    · subst q
      simp
    · by_cases q2 : j < i
      · simp [q, q2, show j < i + 1 by omega]
      · simp [q, q2, show ¬ j < i + 1 by omega]
theorem outer_arr (cA : ClassId) (M h0 : Nat) : Jvm.Free.Multi.outerC cA M h0 M = arrV cA M (fun j => .ref (h0 + 1 + j)) := by
  rw [outer_at]
  unfold arrV
  congr 2
  funext j
  exact if_pos j.isLt
def uM (S : LbS) (n : Nat) : LbS := uA (uN (uN (uN (uN (uN (uN (uN S 215 n 7 6) 216 (n + 1) 2 42) 217 (n + 2) 2 42) 218 (n + 3) 2 42) 219 (n + 4) 2 42) 220 (n + 5) 2 42) 221 (n + 6) 2 42) 215 (fun q => some (n + 1 + q.toNat))
def zM (Z : Nat → Int → Int) : Nat → Int → Int := va_up (va_up (va_up (va_up (va_up (va_up (va_up Z 215 (fun _ => 0)) 216 (fun _ => 0)) 217 (fun _ => 0)) 218 (fun _ => 0)) 219 (fun _ => 0)) 220 (fun _ => 0)) 221 (fun _ => 0)
theorem up_lt {α : Type} {g : Nat → Option α} {n : Nat} {v : α} (h : ∀ a e, g a = some e → a < n) : ∀ a e, va_up g n (some v) a = some e → a < n + 1 := fun a e q => by
  rcases va_up_or q with ⟨q, -⟩ | ⟨-, q⟩
  · omega
  · have := h a e q
    omega
section LM
variable {p : Program} {l : Launch} {e : Env} {R : Room} {s : State} {m : MethodId} {args : Array Value} {below : List Frame} {meth : Method} {c : Code} {H : Heap} {locs : List Loc} {cells slots : Nat} {Q : State → Prop}
variable {cc : ByteArray} {pc : Nat} {ls : Array Slot} {rest : List Value} {D : va_G} {T N : Nat → Nat} {A : Nat → Prop} {g : GH} {n nL : Nat} {S : LbS} {W1 : Nat → Int → Int}
theorem L_newM (hC : Ct D T N A p s m args c cc "FairFight$Odds" nL) (hX : Wd D A s g n H locs) (hL : lR T g S W1) (hcells : cells + 7 ≤ R.cells) (hslots : slots + 258 ≤ R.slots) (hdg : decode cc pc = .ok (.multianewarray 30 2, 4))
    (kk : ∀ (g' : GH) (H1 : Heap), Wd D A s g' (n + 7) H1 locs → lR T g' (uM S n) (zM W1) → W p l e R s m args below meth c H1 locs (cells + 7) (slots + 258) Q (F0 m (pc + 4) ls (.ref n :: rest))) : W p l e R s m args below meth c H locs cells slots Q (F0 m pc ls (.int (iI 42) :: .int (iI 6) :: rest)) := by
  intro Tt hT X
  have n6 : (iI 6).toNatClampNeg = 6 := by decide
  have n42 : (iI 42).toNatClampNeg = 42 := by decide
  obtain ⟨vm₁, cA, comp, hW, hfA, hfC, hO, hI, X1, st⟩ := X.multianewarray2F hC.x (own := "FairFight$Odds") (index := 30) (ty := .long) (g := F0 m pc ls (.int (iI 42) :: .int (iI 6) :: rest)) hC.ow (hC.ts _ q356) (aOA_moved (Vm.Alike.refl _) (hC.W.w q357 rfl)) (hC.ts _ q104) rfl (by rw [hC.b]; exact hdg) rfl (by decide) (by decide) (by rw [n6]; decide) (by rw [n42]; decide) (by rw [n42]; decide) rfl rfl (by rw [n6]; omega) (by rw [n6, n42]; omega)
  rw [n6, n42] at X1 st
  have eA : cA = T 6 := cls_one hfA (hC.K.2 6 _ rfl).2
  have eC : comp = T 1 := cls_one hfC (hC.K.2 1 _ rfl).2
  subst eA; subst eC
  have hh : (Tt.setVm vm₁).heap = H := hT
  have hs0 : (Tt.setVm vm₁).heap.size = n := by rw [hh]; exact hX.1
  have hs1 : Tt.heap.size = n := by rw [hT]; exact hX.1
  obtain ⟨f1, f2, -, -⟩ := Jvm.Free.Multi.fill_facts (Tt.setVm vm₁) (T 6) (T 1) 6 42 (defaultValue .long) 6
  have fo := fun (a : Addr) (ha : a < (Tt.setVm vm₁).heap.size) => Jvm.Free.Multi.fill_old (Tt.setVm vm₁) (T 6) (T 1) 6 42 (defaultValue .long) (a := a) ha 6
  have fi := fun (j : Nat) (hj : j < 6) => Jvm.Free.Multi.fill_inner (Tt.setVm vm₁) (T 6) (T 1) 6 42 (defaultValue .long) 6 j hj
  rw [hs0] at f1 f2 fo fi
  rw [outer_arr] at f2
  rw [hh] at fo
  have l0 : ∀ a e, g a = some e → a < n := fun _ _ q => hX.lt q
  have L7 := ((((((hL.nr l0 215 (t := 6) (L := 6) (by decide)).nl (up_lt l0) 216 (L := 42)).nl (up_lt (up_lt l0)) 217 (L := 42)).nl (up_lt (up_lt (up_lt l0))) 218 (L := 42)).nl (up_lt (up_lt (up_lt (up_lt l0)))) 219 (L := 42)).nl (up_lt (up_lt (up_lt (up_lt (up_lt l0))))) 220 (L := 42)).nl (up_lt (up_lt (up_lt (up_lt (up_lt (up_lt l0)))))) 221 (L := 42)
  have L8 := L7.ur 215 (t := 6) (L := 6) rfl (by decide) rfl (fun q => some (n + 1 + q.toNat))
  have hW8 := hX.news (g' := va_up (va_up (va_up (va_up (va_up (va_up (va_up (va_up g n (some (aR T 6 6 (fun _ => none)))) (n + 1) (some (aL T 42 (fun _ => 0)))) (n + 2) (some (aL T 42 (fun _ => 0)))) (n + 3) (some (aL T 42 (fun _ => 0)))) (n + 4) (some (aL T 42 (fun _ => 0)))) (n + 5) (some (aL T 42 (fun _ => 0)))) (n + 6) (some (aL T 42 (fun _ => 0)))) n (some (aR T 6 6 (fun q => some (n + 1 + q.toNat))))) f1 (by omega) fo ?_
  · obtain ⟨t', a1, b1⟩ := kk _ _ hW8 L8 _ rfl (X1.more (Nat.le_refl _) (by omega))
    exact ⟨t', st t' (by rw [hs1]; exact a1), b1⟩
  · have fin : ∀ j, j < 6 → va_at D CL (n + 1 + j, aL T 42 (fun _ => 0)) (Jvm.Free.Multi.fill (Tt.setVm vm₁) (T 6) (T 1) 6 42 (defaultValue .long) 6).heap := fun j hj => by
      show _ = some (vp_cell _ _)
      rw [vp_cell_l, fi j hj]
      show some (Jvm.Free.Multi.innerC _ _ _) = some (arrV (T 1) 42 (fun _ => Value.long 0))
      rw [← arrV_new]
      rfl
    intro a x ha
    rcases va_up_or ha with ⟨q, q2⟩ | ⟨hq0, ha⟩
    · refine Or.inr ⟨by rw [q]; exact Nat.le_refl n, ?_⟩
      rw [q, ← q2]
      show _ = some (vp_cell _ _)
      rw [vp_cell_q]
      exact f2
    rcases va_up_or ha with ⟨q, q2⟩ | ⟨-, ha⟩
    · exact Or.inr ⟨by omega, by rw [q, ← q2]; exact fin 5 (by decide)⟩
    rcases va_up_or ha with ⟨q, q2⟩ | ⟨-, ha⟩
    · exact Or.inr ⟨by omega, by rw [q, ← q2]; exact fin 4 (by decide)⟩
    rcases va_up_or ha with ⟨q, q2⟩ | ⟨-, ha⟩
    · exact Or.inr ⟨by omega, by rw [q, ← q2]; exact fin 3 (by decide)⟩
    rcases va_up_or ha with ⟨q, q2⟩ | ⟨-, ha⟩
    · exact Or.inr ⟨by omega, by rw [q, ← q2]; exact fin 2 (by decide)⟩
    rcases va_up_or ha with ⟨q, q2⟩ | ⟨-, ha⟩
    · exact Or.inr ⟨by omega, by rw [q, ← q2]; exact fin 1 (by decide)⟩
    rcases va_up_or ha with ⟨q, q2⟩ | ⟨-, ha⟩
    · exact Or.inr ⟨by omega, by rw [q, ← q2]; exact fin 0 (by decide)⟩
    rcases va_up_or ha with ⟨q, q2⟩ | ⟨-, ha⟩
    · exact absurd q hq0
    exact Or.inl ha
end LM
