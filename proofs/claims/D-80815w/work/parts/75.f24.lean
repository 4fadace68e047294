/-! FairFight: the day -/
theorem bitF_hi {v : Int} {k j : Nat} (hv : 0 ≤ v ∧ v < 2 ^ k) (hj : k ≤ j) : bitF v j = 0 := by
  unfold bitF
  have h2 : (2 : Int) ^ k ≤ 2 ^ j := by
    have : (2 : Nat) ^ k ≤ 2 ^ j := Nat.pow_le_pow_right (by decide) hj
    exact_mod_cast this
  rw [show ((j : Int)).toNat = j from rfl, Int.ediv_eq_zero_of_lt hv.1 (by omega)]
  rfl
theorem onesD_hi {v : Int} {k : Nat} (hv : 0 ≤ v ∧ v < 2 ^ k) : ∀ d : Nat, onesD v (k + d) = onesD v k
  | 0 => rfl
  | d + 1 => by
    show onesD v (k + d) + bitF v ((k + d : Nat) : Int) = _
    rw [bitF_hi hv (by omega), onesD_hi hv d]
    omega
theorem onesD_6 {v k : Int} (hk : 0 ≤ k ∧ k ≤ 6) (hv : 0 ≤ v ∧ v < 2 ^ k.toNat) : onesD v 6 = onesD v k.toNat := by
  have := onesD_hi hv (6 - k.toNat)
  rw [show k.toNat + (6 - k.toNat) = 6 by omega] at this
  exact this

set_option maxHeartbeats 4000000 in
set_option maxRecDepth 100000 in
theorem f0_ones (D : va_G) (T N : Nat → Nat) (l : Launch) (v : Int) (hv : 0 ≤ v ∧ v ≤ 63) : SSi D T N l yX0_ones (ws_ yX0_ones cX0_ones 3 (some .int)) ({ frames := 0, cells := 0, slots := 0, locals := 0 } : Room) [.int (iI (v))] (fun r => r = onesD v 6) := by
  intro g0 n
  refine j_start (by decide) (Nat.le_of_ble_eq_true rfl) ?_
  intro p e s mi args below meth c hC hr hlk hnm hX ls hl
  have hC : Ct D T N (gA g0 n) p s mi args c cX0_ones RX0 3 := hC
  have hx := hC.x
  have hb := hC.b
  generalize hQ : MQ below _ args s 0 0 (gA g0 n) = Q
  have hl : lv_has ls 3 [(0, .int (iI (v)))] := hl
  refine j_iconst hC (pc := 0) dX0_ones_0 ?_
  refine lv_istore_n (lv' := [(1, .int (iI (0))), (0, .int (iI (v)))]) hx hb (pc := 1) dX0_ones_1 rfl hl (by decide) rfl (fun ls hl => ?_)
  refine j_iconst hC (pc := 2) dX0_ones_2 ?_
  refine lv_istore_n (lv' := [(2, .int (iI (0))), (1, .int (iI (0))), (0, .int (iI (v)))]) hx hb (pc := 3) dX0_ones_3 rfl hl (by decide) rfl (fun ls hl => ?_)
  have L4 : ∀ (fu : Nat) (i : Int) (z : Int), 6 - i < (fu : Int) → (0 ≤ i ∧ i ≤ 6) → (z = onesD v i.toNat) → ∀ (H : Heap) (locs : List Loc), Wd D (gA g0 n) s g0 n H locs → ∀ (ls : Array Slot), lv_has ls 3 [(2, .int (iI (i))), (1, .int (iI (z))), (0, .int (iI (v)))] → W p l e ({ frames := 0, cells := 0, slots := 0, locals := 0 } : Room) s mi args below meth c H locs 0 0 Q (F0 mi 4 ls []) := by
    intro fu
    induction fu with
    | zero =>
      intro i z hfu hi hz H locs hX ls hl
      exfalso
      omega
    | succ fu ih4 =>
      intro i z hfu hi hz H locs hX ls hl
      refine lv_iload_n hx hb (pc := 4) dX0_ones_4 rfl (lv_at hl 0 rfl) ?_
      refine j_bipush hC (pc := 5) dX0_ones_5 (by decide) ?_
      refine j_icmp_ge hC (pc := 7) 24 dX0_ones_7 (by decide) (by omega) (fun c1 => ?_) (fun c1 => ?_)
      · skip
        refine lv_iload_n hx hb (pc := 24) dX0_ones_24 rfl (lv_at hl 1 rfl) ?_
        subst hQ
        exact j_iret hC (pc := 25) hX hr hlk (Nat.le_of_ble_eq_true rfl) (Nat.le_of_ble_eq_true rfl) dX0_ones_25 ⟨rfl, rfl, (by rw [hz, show i.toNat = 6 by omega])⟩
      · skip
        refine lv_iload_n hx hb (pc := 10) dX0_ones_10 rfl (lv_at hl 1 rfl) ?_
        refine lv_iload_n hx hb (pc := 11) dX0_ones_11 rfl (lv_at hl 2 rfl) ?_
        refine lv_iload_n hx hb (pc := 12) dX0_ones_12 rfl (lv_at hl 0 rfl) ?_
        refine j_bit hC (pc := 13) dX0_ones_13 dX0_ones_14 dX0_ones_15 (by omega) ?_
        refine j_iadd hC (pc := 16) dX0_ones_16 ?_
        refine lv_istore_n (lv' := [(1, .int (iI (z + (bitF v i)))), (2, .int (iI (i))), (0, .int (iI (v)))]) hx hb (pc := 17) dX0_ones_17 rfl hl (by decide) rfl (fun ls hl => ?_)
        refine j_iinc hC (pc := 18) (lv' := [(2, .int (iI (i + 1))), (1, .int (iI (z + (bitF v i)))), (0, .int (iI (v)))]) dX0_ones_18 hl (k := 1) rfl (by decide) rfl (fun ls hl => ?_)
        refine j_goto hC (pc := 21) 4 dX0_ones_21 (by decide) ?_
        exact ih4 (i + 1) (z + (bitF v i)) (by omega) (by omega) (by rw [show (i + 1).toNat = i.toNat + 1 by omega, hz]; show _ = onesD v i.toNat + bitF v (i.toNat : Int); rw [Int.toNat_of_nonneg hi.1]) _ _ hX ls (lv_sub hl [0, 1, 2] rfl)
  exact L4 ((6 - 0 : Int).toNat + 1) 0 0 (by omega) (by omega) rfl _ _ hX ls (lv_sub hl [0, 1, 2] rfl)
