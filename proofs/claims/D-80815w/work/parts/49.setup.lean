/-! A FIGHT SET UP, pure: rows without gaps; the order of turns, in a row and by slots -/
def cnR (f : Int → Int) : Int := if f 0 = -1 then 0 else if f 1 = -1 then 1 else if f 2 = -1 then 2 else 3
def rwOk (F : Nat → Int) (wh : Int → Int) : Prop := rowA (wh 0) (wh 1) (wh 2) (F 0) ∧ rowA (wh 3) (wh 4) (wh 5) (F 0)
theorem rwOk.wh {F : Nat → Int} {wh : Int → Int} (h : rwOk F wh) : whOk F wh := fun j a b => by
  obtain ⟨h1, h2⟩ := h
  unfold rowA at h1 h2
  have : j = 0 ∨ j = 1 ∨ j = 2 ∨ j = 3 ∨ j = 4 ∨ j = 5 := by omega
  rcases this with rfl | rfl | rfl | rfl | rfl | rfl <;> omega
def hdW (wh : Int → Int) : Int := cnR wh
def mnW (wh : Int → Int) : Int := cnR wh + cnR (fun q => wh (3 + q))
theorem cnR_rg (f : Int → Int) : 0 ≤ cnR f ∧ cnR f ≤ 3 := by
  unfold cnR
  (repeat' split) <;> omega
theorem hmW (wh : Int → Int) : hmOk (hdW wh) (mnW wh) := by
  have h1 := cnR_rg wh
  have h2 := cnR_rg (fun q => wh (3 + q))
  unfold hmOk hdW mnW
  omega
/-- who stands, by slots -/
theorem wh_at {F : Nat → Int} {wh : Int → Int} (h : rwOk F wh) {j : Int} (hj : 0 ≤ j ∧ j < 6) : (noS (hdW wh) (mnW wh) j ∧ wh j = -1) ∨ (¬ noS (hdW wh) (mnW wh) j ∧ 0 ≤ wh j ∧ wh j < F 0) := by
  obtain ⟨h1, h2⟩ := h
  unfold rowA at h1 h2
  have e3 : (fun q => wh (3 + q)) 0 = wh 3 := rfl
  have e4 : (fun q => wh (3 + q)) 1 = wh 4 := rfl
  have e5 : (fun q => wh (3 + q)) 2 = wh 5 := rfl
  unfold noS hdW mnW cnR
  rw [e3, e4, e5]
  have : j = 0 ∨ j = 1 ∨ j = 2 ∨ j = 3 ∨ j = 4 ∨ j = 5 := by omega
  rcases this with rfl | rfl | rfl | rfl | rfl | rfl <;> (repeat' split) <;> omega
/-- the order of turns of n in a row -/
def soF (sp o : Int → Int) : Nat → Int → Int
  | 0 => o
  | n + 1 => insA sp n (soF sp o n) n
theorem soF_rg {sp o : Int → Int} : ∀ n : Nat, ∀ j : Int, 0 ≤ j → j < n → 0 ≤ soF sp o n j ∧ soF sp o n j < n
  | 0, j, a, b => by omega
  | n + 1, j, a, b => insA_mem (P := fun x => 0 ≤ x ∧ x < ((n + 1 : Nat) : Int)) (sp := sp) (k := n) (by omega) n _ (fun i c d => by have := soF_rg (sp := sp) (o := o) n i c d; omega) j a (by omega)
theorem insA_map {sp s : Int → Int} {k : Int} : ∀ (n : Nat) (u v : Int → Int), (∀ j : Int, 0 ≤ j → j < n → u j = s (v j)) → ∀ j : Int, 0 ≤ j → j < n + 1 → insA sp (s k) u n j = s (insA (fun x => sp (s x)) k v n j)
  | 0, u, v, _, j, h1, h2 => by
    show uI u 0 (s k) j = s (uI v 0 k j)
    rw [show j = 0 by omega, uI_s, uI_s]
  | n + 1, u, v, h, j, h1, h2 => by
    have hn := h n (by omega) (by omega)
    unfold insA
    rw [hn]
    split
    · rcases Decidable.em (j < n + 1) with q | q
      · refine insA_map n _ _ (fun i a b => ?_) j h1 q
        rw [uI_n _ _ (by omega), uI_n _ _ (by omega)]
        exact h i a (by omega)
      · have e : ∀ (sp' : Int → Int) (k' : Int) (m : Nat) (u : Int → Int), (m : Int) < j → insA sp' k' u m j = u j := by
          intro sp' k' m
          induction m with
          | zero => intro u hm; show uI u 0 k' j = u j; exact uI_n _ _ (by omega)
          | succ m ih =>
            intro u hm
            unfold insA
            split
            · rw [ih _ (by omega), uI_n _ _ (by omega)]
            · exact uI_n _ _ (by omega)
        rw [e _ _ n _ (by omega), e _ _ n _ (by omega), show j = n + 1 by omega, uI_s, uI_s]
    · unfold uI
      split
      · rfl
      · exact h j h1 (by omega)
theorem soF_cg {sp sp' o : Int → Int} : ∀ n : Nat, (∀ k : Int, 0 ≤ k → k < n → sp' k = sp k) → ∀ j : Int, 0 ≤ j → j < n → soF sp' o n j = soF sp o n j
  | 0, _, j, a, b => by omega
  | n + 1, h, j, a, b => by
    show insA sp' n (soF sp' o n) n j = insA sp n (soF sp o n) n j
    refine insA_cg (h n (by omega) (by omega)) n _ _ (fun i c d => ⟨soF_cg n (fun k e f => h k e (by omega)) i c d, ?_⟩) j a (by omega)
    have := soF_rg (sp := sp) (o := o) n i c d
    exact h _ this.1 (by omega)
theorem ordA_stop {who sp o : Int → Int} {i : Nat} : ∀ n : Nat, (∀ j : Nat, i ≤ j → j < i + n → who j = -1) → ordA who sp o (i + n) = ordA who sp o i
  | 0, _ => rfl
  | n + 1, hz => by
    show (if who ((i + n : Nat) : Int) = -1 then ordA who sp o (i + n) else _) = _
    rw [if_pos (hz (i + n) (by omega) (by omega)), ordA_stop n (fun j a b => hz j a (by omega))]
/-- the order of turns, both ways -/
theorem ord_so {F : Nat → Int} {wh sp o o2 : Int → Int} (hw : rwOk F wh) : ((ordA wh sp o 6).2 : Int) = mnW wh ∧ ∀ j : Int, 0 ≤ j → j < mnW wh → (ordA wh sp o 6).1 j = slF (hdW wh) (soF (fun x => sp (slF (hdW wh) x)) o2 (mnW wh).toNat j) := by
  have hm := hmW wh
  have hm' := hm
  unfold hmOk at hm
  have at_ := fun j (a : 0 ≤ j ∧ j < 6) => wh_at hw a
  have step : ∀ (n c : Nat), wh n ≠ -1 → slF (hdW wh) c = n → ((ordA wh sp o n).2 = c ∧ ∀ j : Int, 0 ≤ j → j < c → (ordA wh sp o n).1 j = slF (hdW wh) (soF (fun x => sp (slF (hdW wh) x)) o2 c j)) →
      ((ordA wh sp o (n + 1)).2 = c + 1 ∧ ∀ j : Int, 0 ≤ j → j < (c + 1 : Nat) → (ordA wh sp o (n + 1)).1 j = slF (hdW wh) (soF (fun x => sp (slF (hdW wh) x)) o2 (c + 1) j)) := fun n c q e ⟨i1, i2⟩ => by
    have e1 : ordA wh sp o (n + 1) = (insA sp n (ordA wh sp o n).1 (ordA wh sp o n).2, (ordA wh sp o n).2 + 1) := if_neg q
    rw [e1, i1]
    refine ⟨rfl, fun j a b => ?_⟩
    show insA sp n (ordA wh sp o n).1 c j = slF (hdW wh) (insA (fun x => sp (slF (hdW wh) x)) c (soF (fun x => sp (slF (hdW wh) x)) o2 c) c j)
    rw [← e]
    exact insA_map c _ _ i2 j a (by omega)
  have heroes : ∀ n : Nat, (n : Int) ≤ hdW wh → ((ordA wh sp o n).2 = n ∧ ∀ j : Int, 0 ≤ j → j < n → (ordA wh sp o n).1 j = slF (hdW wh) (soF (fun x => sp (slF (hdW wh) x)) o2 n j)) := fun n => by
    induction n with
    | zero => exact fun _ => ⟨rfl, fun j a b => by omega⟩
    | succ n ih =>
      intro hn
      refine step n n ?_ ?_ (ih (by omega))
      · rcases at_ n (by omega) with ⟨q, -⟩ | ⟨-, q⟩
        · unfold noS at q
          omega
        · omega
      · unfold slF
        rw [if_pos (by omega)]
  have h3 : ordA wh sp o ((hdW wh).toNat + (3 - hdW wh).toNat) = ordA wh sp o (hdW wh).toNat := ordA_stop _ (fun j a b => by
    rcases at_ j (by omega) with ⟨-, q⟩ | ⟨q, -⟩
    · exact q
    · exact absurd (Or.inl ⟨by omega, by omega⟩) q)
  rw [show (hdW wh).toNat + (3 - hdW wh).toNat = 3 by omega] at h3
  have foes : ∀ n : Nat, hdW wh + n ≤ mnW wh → ((ordA wh sp o (3 + n)).2 = (hdW wh).toNat + n ∧ ∀ j : Int, 0 ≤ j → j < ((hdW wh).toNat + n : Nat) → (ordA wh sp o (3 + n)).1 j = slF (hdW wh) (soF (fun x => sp (slF (hdW wh) x)) o2 ((hdW wh).toNat + n) j)) := fun n => by
    induction n with
    | zero =>
      intro _
      have := heroes (hdW wh).toNat (by omega)
      rw [← h3] at this
      exact this
    | succ n ih =>
      intro hn
      refine step (3 + n) ((hdW wh).toNat + n) ?_ ?_ (ih (by omega))
      · rcases at_ ((3 + n : Nat) : Int) (by omega) with ⟨q, -⟩ | ⟨-, q⟩
        · unfold noS at q
          omega
        · omega
      · unfold slF
        rw [if_neg (by omega)]
        omega
  have h6 : ordA wh sp o (3 + (mnW wh - hdW wh).toNat + (3 - (mnW wh - hdW wh)).toNat) = ordA wh sp o (3 + (mnW wh - hdW wh).toNat) := ordA_stop _ (fun j a b => by
    rcases at_ j (by omega) with ⟨-, q⟩ | ⟨q, -⟩
    · exact q
    · exact absurd (Or.inr ⟨by omega, by omega⟩) q)
  rw [show 3 + (mnW wh - hdW wh).toNat + (3 - (mnW wh - hdW wh)).toNat = 6 by omega] at h6
  have := foes (mnW wh - hdW wh).toNat (by omega)
  rw [← h6, show (hdW wh).toNat + (mnW wh - hdW wh).toNat = (mnW wh).toNat by omega] at this
  exact ⟨by omega, fun j a b => this.2 j a (by omega)⟩
/-- of a fighter laid into the fight's cells -/
def fiR (V : Nat → Int → Int) (wh : Int → Int) (bo : Int) (Z : Nat → Int → Int) (k : Int) : Prop :=
  Z 202 k = sdF (hdW wh) k ∧ Z 203 k = (if k < hdW wh then k else k - hdW wh) ∧ Z 204 k = V 1 (6 * wh (slF (hdW wh) k)) ∧ Z 205 k = V 1 (6 * wh (slF (hdW wh) k) + 1) ∧ Z 206 k = V 1 (6 * wh (slF (hdW wh) k) + 2) ∧ Z 207 k = V 1 (6 * wh (slF (hdW wh) k) + 3) + (if k < hdW wh then bo else 0) ∧ Z 208 k = V 1 (6 * wh (slF (hdW wh) k) + 4) ∧ Z 212 k = V 1 (6 * wh (slF (hdW wh) k) + 5)
theorem fiR.nx {V : Nat → Int → Int} {wh : Int → Int} {bo n a0 a1 a2 a3 a4 a5 a6 a7 : Int} {Z : Nat → Int → Int} (h : ∀ k : Int, 0 ≤ k → k < n → fiR V wh bo Z k)
    (e : a0 = sdF (hdW wh) n ∧ a1 = (if n < hdW wh then n else n - hdW wh) ∧ a2 = V 1 (6 * wh (slF (hdW wh) n)) ∧ a3 = V 1 (6 * wh (slF (hdW wh) n) + 1) ∧ a4 = V 1 (6 * wh (slF (hdW wh) n) + 2) ∧ a5 = V 1 (6 * wh (slF (hdW wh) n) + 3) + (if n < hdW wh then bo else 0) ∧ a6 = V 1 (6 * wh (slF (hdW wh) n) + 4) ∧ a7 = V 1 (6 * wh (slF (hdW wh) n) + 5)) :
    ∀ k : Int, 0 ≤ k → k < n + 1 → fiR V wh bo (va_up (va_up (va_up (va_up (va_up (va_up (va_up (va_up Z 202 (uI (Z 202) n a0)) 203 (uI (Z 203) n a1)) 204 (uI (Z 204) n a2)) 205 (uI (Z 205) n a3)) 206 (uI (Z 206) n a4)) 207 (uI (Z 207) n a5)) 208 (uI (Z 208) n a6)) 212 (uI (Z 212) n a7)) k := fun k a b => by
  show uI (Z 202) n a0 k = _ ∧ uI (Z 203) n a1 k = _ ∧ uI (Z 204) n a2 k = _ ∧ uI (Z 205) n a3 k = _ ∧ uI (Z 206) n a4 k = _ ∧ uI (Z 207) n a5 k = _ ∧ uI (Z 208) n a6 k = _ ∧ uI (Z 212) n a7 k = _
  rcases Decidable.em (k = n) with q | q
  · rw [q, uI_s, uI_s, uI_s, uI_s, uI_s, uI_s, uI_s, uI_s]
    exact e
  · rw [uI_n _ _ q, uI_n _ _ q, uI_n _ _ q, uI_n _ _ q, uI_n _ _ q, uI_n _ _ q, uI_n _ _ q, uI_n _ _ q]
    exact h k a (by omega)
theorem numF_r {w v : Int} (h : numF w v = 1) : (w = 0 → 0 ≤ v ∧ v ≤ 2) ∧ (w = 1 → 1 ≤ v ∧ v ≤ 20) ∧ (w = 2 → 0 ≤ v ∧ v ≤ 6) ∧ (w = 3 → 1 ≤ v ∧ v ≤ 9) ∧ (w = 4 → 0 ≤ v ∧ v ≤ 19) := numF_w h
/-- the fight's cells, set up -/
theorem set_of {F : Nat → Int} {V : Nat → Int → Int} {wh : Int → Int} {bo : Int} {S : LbS} {Z : Nat → Int → Int} (hI : SI F V) (hw : rwOk F wh) (hbo : 0 ≤ bo ∧ bo ≤ 9) (hsh : shp S [201, 202, 203, 204, 205, 206, 207, 208, 209, 210, 211]) (hrf : ∀ i : Nat, 2 ≤ i → i < 12 → zA S 201 (i : Int) = some (zB S (200 + i)))
    (h0 : Z 201 0 = mnW wh) (h1 : Z 201 1 = F 4) (hx : Z 0 5 = F 5 ∧ Z 0 3 = F 3) (hf : ∀ k : Int, 0 ≤ k → k < mnW wh → fiR V wh bo Z k) (h9 : Z 209 = soF (Z 212) (fun _ => 0) (mnW wh).toNat) :
    fS S Z ∧ stR (hdW wh) (suS F V wh bo (F 5)) Z := by
  have hn := hI.nums
  have hm := hmW wh
  have hm' := hm
  unfold hmOk at hm'
  have os := ord_so (sp := fun j => V 1 (6 * wh j + 5)) (o := fun _ => 0) (o2 := fun _ => 0) hw
  have ho : ∀ j : Int, 0 ≤ j → j < mnW wh → slF (hdW wh) (Z 209 j) = suS F V wh bo (F 5) 5 j ∧ 0 ≤ Z 209 j ∧ Z 209 j < mnW wh := fun j a b => by
    have e := soF_cg (sp := fun x => V 1 (6 * wh (slF (hdW wh) x) + 5)) (sp' := Z 212) (o := fun _ => 0) (mnW wh).toNat (fun k c d => (hf k c (by omega)).2.2.2.2.2.2.2) j a (by omega)
    have rg := soF_rg (sp := Z 212) (o := fun _ => 0) (mnW wh).toNat j a (by omega)
    rw [h9]
    refine ⟨?_, by omega, by omega⟩
    rw [e, ← os.2 j a b]
    rfl
  have pr : ∀ k : Int, 0 ≤ k → k < mnW wh → wh (slF (hdW wh) k) ≠ -1 ∧ 0 ≤ wh (slF (hdW wh) k) ∧ wh (slF (hdW wh) k) < F 0 := fun k a b => by
    have rg := slF_rg hm ⟨a, b⟩
    rcases wh_at hw ⟨rg.1, rg.2.1⟩ with ⟨q, -⟩ | ⟨-, q⟩
    · exact absurd q rg.2.2
    · exact ⟨by omega, q⟩
  have lo : ∀ r k : Int, r < 5 → 0 ≤ k → k < mnW wh → suS F V wh bo (F 5) r (slF (hdW wh) k) = V 1 (6 * wh (slF (hdW wh) k) + r) + (if r = 3 ∧ k < hdW wh then bo else 0) := fun r k hr a b => by
    have q := pr k a b
    unfold suS
    rw [suF_lo hr, if_neg q.1]
    congr 1
    have : slF (hdW wh) k < 3 ↔ k < hdW wh := by
      unfold slF
      split <;> omega
    by_cases q3 : r = 3 ∧ k < hdW wh
    · rw [if_pos q3, if_pos ⟨q3.1, this.mpr q3.2⟩]
    · rw [if_neg q3, if_neg (fun z => q3 ⟨z.1, this.mp z.2⟩)]
  refine ⟨⟨hsh, hrf, by omega, by omega, fun k a b => ?_⟩, by rw [h0]; exact hm, ⟨?_, ?_, ?_, ?_⟩, fun k a b => ?_, fun k a b => ?_, fun j a b c => ?_⟩
  · rw [h0] at b
    obtain ⟨f1, f2, f3, f4, f5, f6, f7, f8⟩ := hf k a b
    have q := pr k a b
    have n0 := numF_r (hI.num (f := wh (slF (hdW wh) k)) (w := 0) (by omega))
    have n1 := numF_r (hI.num (f := wh (slF (hdW wh) k)) (w := 1) (by omega))
    have n2 := numF_r (hI.num (f := wh (slF (hdW wh) k)) (w := 2) (by omega))
    have n3 := numF_r (hI.num (f := wh (slF (hdW wh) k)) (w := 3) (by omega))
    have n4 := numF_r (hI.num (f := wh (slF (hdW wh) k)) (w := 4) (by omega))
    have e0 := n0.1 rfl
    have e1 := n1.2.1 rfl
    have e2 := n2.2.2.1 rfl
    have e3 := n3.2.2.2.1 rfl
    have e4 := n4.2.2.2.2 rfl
    rw [Int.add_zero] at e0
    have o9 := ho k a b
    rw [f1, f2, f3, f4, f5, f6, f7, h0]
    unfold sdF
    refine ⟨by split <;> omega, by split <;> omega, by omega, by omega, by omega, by split <;> omega, by omega, o9.2⟩
  · rw [h0]
    exact os.1.symm
  · rw [h1]
    rfl
  · rw [hx.1]
    rfl
  · rw [hx.2]
    rfl
  · rw [h0] at b
    exact (hf k a b).1
  · rw [h0] at b
    obtain ⟨f1, f2, f3, f4, f5, f6, f7, f8⟩ := hf k a b
    rw [lo 0 k (by decide) a b, lo 1 k (by decide) a b, lo 2 k (by decide) a b, lo 3 k (by decide) a b, lo 4 k (by decide) a b, f3, f4, f5, f6, f7]
    have x0 : ¬ ((0 : Int) = 3 ∧ k < hdW wh) := fun z => by omega
    have x1 : ¬ ((1 : Int) = 3 ∧ k < hdW wh) := fun z => by omega
    have x2 : ¬ ((2 : Int) = 3 ∧ k < hdW wh) := fun z => by omega
    have x4 : ¬ ((4 : Int) = 3 ∧ k < hdW wh) := fun z => by omega
    rw [if_neg x0, if_neg x1, if_neg x2, if_neg x4]
    refine ⟨by rw [Int.add_zero, Int.add_zero], by omega, by omega, ?_, by omega, (ho k a b).1⟩
    congr 1
    by_cases q : k < hdW wh
    · rw [if_pos q, if_pos ⟨rfl, q⟩]
    · rw [if_neg q, if_neg (fun z => q z.2)]
  · rw [h0] at c
    rcases wh_at hw ⟨a, b⟩ with ⟨-, q⟩ | ⟨q, -⟩
    · unfold suS
      rw [suF_lo (by decide), if_pos q]
    · exact absurd c q
/-- .. and begun -/
theorem beg_cs {F : Nat → Int} {V : Nat → Int → Int} {wh : Int → Int} {bo st : Int} {S : LbS} {Z Z' : Nat → Int → Int} (hI : SI F V) (hw : rwOk F wh) (hs : stR (hdW wh) (suS F V wh bo st) Z) (hf : fS S Z) (hc : ch Z Z' [210, 211]) (hp : ∀ k : Int, 0 ≤ k → k < Z 201 0 → Z' 210 k = Z 205 k ∧ Z' 211 k = 1) :
    csR (hdW wh) (Z' 201 0) (suS F V wh bo st 1) (U0 (suS F V wh bo st)) (Z' 210) (Z' 211) := by
  have e : Z' 201 = Z 201 := hc 201 (by decide)
  rw [e]
  refine ⟨fun k a b => ?_, fun j a b c => ?_⟩
  · have := hp k a b
    have h2 := hs.at ⟨a, b⟩
    rw [this.1, this.2, h2.2.1]
    refine ⟨rfl, ?_⟩
    have hn := hs.n.1
    have hm := hs.m
    have rg := slF_rg hm ⟨a, b⟩
    unfold U0
    have pos : suS F V wh bo st 1 (slF (hdW wh) k) ≠ 0 := by
      have e2 : Z 201 0 = mnW wh := by
        rw [hn]
        exact (ord_so (sp := fun j => V 1 (6 * wh j + 5)) (o := fun _ => 0) (o2 := fun _ => 0) hw).1
      rw [e2] at rg
      unfold suS
      rw [suF_lo (by decide)]
      rcases wh_at hw ⟨rg.1, rg.2.1⟩ with ⟨q, -⟩ | ⟨-, q⟩
      · exact absurd q rg.2.2
      · rw [if_neg (by omega)]
        have := (numF_r (hI.num (f := wh (slF (hdW wh) k)) (w := 1) (by omega))).2.1 rfl
        rw [if_neg (show ¬ ((1 : Int) = 3 ∧ slF (hdW wh) k < 3) from fun z => by omega)]
        omega
    rw [if_neg pos]
  · have := hs.no j a b c
    unfold U0
    rw [this]
    exact ⟨rfl, if_pos rfl⟩
theorem xk.of12 {S S1 : LbS} {Z Z1 : Nat → Int → Int} (h1 : sm S S1 [200, 201, 202, 203, 204, 205, 206, 207, 208, 209, 210, 211, 212, 213, 214, 215, 216, 217, 218, 219, 220, 221]) (h2 : ch Z Z1 [200, 201, 202, 203, 204, 205, 206, 207, 208, 209, 210, 211, 212, 213, 214, 215, 216, 217, 218, 219, 220, 221]) (hx : xT S) (ht : xTb Z) : xk S Z S1 Z1 := by
  have e0 := sk.of h1 h2 (show (0 : Nat) ∉ _ by decide) (by decide)
  refine ⟨fun k a b => sk.of h1 h2 (by simp; omega) (by simp; omega), ⟨e0.1, fun j _ _ => by rw [e0.2.2.2.1], e0.2.2.2.2⟩, ?_, ?_⟩
  · obtain ⟨⟨a1, a2, a3, a4⟩, ⟨b1, b2, b3, b4⟩, c1, c2, c3⟩ := hx
    have B := fun k (a : k < 200) => (h1 k (by simp; omega)).1
    have A := fun k (a : k < 200) => (h1 k (by simp; omega)).2.2.2
    refine ⟨⟨a1.sm h1 (by decide), ?_⟩, ⟨b1.sm h1 (by decide), ?_⟩, e0.2.1.trans c1, ?_⟩
    · rw [A 5 (by decide), B (5 + 1) (by decide), B (5 + 2) (by decide), B (5 + 3) (by decide)]
      exact ⟨a2, a3, a4⟩
    · rw [A 9 (by decide), B (9 + 1) (by decide), B (9 + 2) (by decide), B (9 + 3) (by decide)]
      exact ⟨b2, b3, b4⟩
    · rw [e0.2.2.2.1, B 5 (by decide), B 9 (by decide)]
      exact ⟨c2, c3⟩
  · obtain ⟨⟨N5, t5⟩, ⟨N9, t9⟩⟩ := ht
    exact ⟨⟨N5, tZ5.kp t5 h2 (by decide)⟩, ⟨N9, tZ9.kp t9 h2 (by decide)⟩⟩
