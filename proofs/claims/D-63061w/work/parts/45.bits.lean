/-! pure rows: bits of a long -/
def lb (z j : Int) : Prop := (lI z).toBitVec.getLsbD j.toNat = true
theorem lI_toInt (x : Int64) : x = lI x.toInt := by unfold lI; rw [Int64.ofInt_toInt]
theorem lsh_j {j : Int} (h : 0 ≤ j ∧ j < 64) : ((iI j).toInt64 &&& 63).toBitVec = BitVec.ofNat 64 j.toNat ∧ ((iI j).toInt64 &&& 63).toBitVec.smod 64 = BitVec.ofNat 64 j.toNat := by
  obtain ⟨n, rfl⟩ := Int.eq_ofNat_of_zero_le h.1
  have hn : n < 64 := by omega
  have key : ∀ m : Fin 64, ((iI (m.val : Int)).toInt64 &&& 63).toBitVec = BitVec.ofNat 64 m.val ∧ ((iI (m.val : Int)).toInt64 &&& 63).toBitVec.smod 64 = BitVec.ofNat 64 m.val := by decide +kernel
  exact key ⟨n, hn⟩
theorem lb_shr {a j : Int} (h : 0 ≤ j ∧ j < 64) : lI ((lI a >>> ((iI j).toInt64 &&& 63)).toInt) &&& lI 1 = lI (zc (lb a j)) := by
  rw [← lI_toInt]
  have hb : (lI a >>> ((iI j).toInt64 &&& 63)).toBitVec.getLsbD 0 = (lI a).toBitVec.getLsbD j.toNat := by
    rw [Int64.toBitVec_shiftRight, (lsh_j h).2, BitVec.sshiftRight_eq', BitVec.toNat_ofNat, Nat.mod_eq_of_lt (by omega), BitVec.getLsbD_sshiftRight]
    simp
    omega
  apply Int64.toBitVec_inj.mp
  rw [Int64.toBitVec_and]
  by_cases hl : lb a j
  · rw [zc_t hl]
    have : (lI 1).toBitVec = 1#64 := by decide
    rw [this, BitVec.and_one_eq_setWidth_ofBool_getLsbD, hb, show (lI a).toBitVec.getLsbD j.toNat = true from hl]
    rfl
  · rw [zc_f hl]
    have h1 : (lI 1).toBitVec = 1#64 := by decide
    have h0 : (lI 0).toBitVec = 0#64 := by decide
    have hf : (lI a).toBitVec.getLsbD j.toNat = false := by
      unfold lb at hl
      simpa using hl
    rw [h1, h0, BitVec.and_one_eq_setWidth_ofBool_getLsbD, hb, hf]
    rfl
theorem lcmp1 {p : Prop} : lg_cmp (lI (zc p)) (lI 1) = iI (zc p - 1) := by
  rcases zc_or p with h | h <;> rw [h] <;> decide
/-- the bit j is put in -/
theorem lb_or {a j i : Int} (h : 0 ≤ j ∧ j < 64) (hi : 0 ≤ i ∧ i < 64) : lb ((lI a ||| lI ((lI 1 <<< ((iI j).toInt64 &&& 63)).toInt)).toInt) i ↔ lb a i ∨ i = j := by
  unfold lb
  rw [← lI_toInt, ← lI_toInt, Int64.toBitVec_or, BitVec.getLsbD_or, Int64.toBitVec_shiftLeft, (lsh_j h).2]
  have h1 : (lI 1).toBitVec = 1#64 := by decide
  rw [h1, BitVec.shiftLeft_eq', BitVec.toNat_ofNat, Nat.mod_eq_of_lt (by omega), BitVec.getLsbD_shiftLeft]
  rw [Bool.or_eq_true]
  refine or_congr Iff.rfl ?_
  simp
  omega
theorem lb_0 {i : Int} : ¬ lb 0 i := by
  unfold lb
  have h0 : (lI 0).toBitVec = 0#64 := by decide
  rw [h0]
  simp
theorem lb_ext {a b : Int} (h : ∀ i, 0 ≤ i → i < 64 → (lb a i ↔ lb b i)) : lI a = lI b := by
  apply Int64.toBitVec_inj.mp
  apply BitVec.eq_of_getLsbD_eq
  intro i hi
  have := h i (by omega) (by omega)
  unfold lb at this
  rw [Int.toNat_natCast] at this
  exact Bool.eq_iff_iff.mpr this
theorem lcmp0 {a b : Int} : lg_cmp (lI a) (lI b) = iI (if lI a > lI b then 1 else if lI a = lI b then 0 else -1) := by
  unfold lg_cmp
  by_cases c1 : lI a > lI b
  · rw [if_pos c1, if_pos c1]; decide
  · rw [if_neg c1, if_neg c1]
    by_cases c2 : lI a = lI b
    · rw [if_pos c2, if_pos c2]; decide
    · rw [if_neg c2, if_neg c2]; decide
theorem lcmp0_e {a b : Int} : (if lI a > lI b then (1 : Int) else if lI a = lI b then 0 else -1) = 0 ↔ lI a = lI b := by
  by_cases c1 : lI a > lI b
  · rw [if_pos c1]
    refine ⟨fun h => by omega, fun h => ?_⟩
    rw [h] at c1
    exact (Int64.lt_irrefl c1).elim
  · rw [if_neg c1]
    by_cases c2 : lI a = lI b
    · rw [if_pos c2]; exact ⟨fun _ => c2, fun _ => rfl⟩
    · rw [if_neg c2]; exact ⟨fun h => by omega, fun h => absurd h c2⟩
theorem lcmp0_r {a b : Int} : -1 ≤ (if lI a > lI b then (1 : Int) else if lI a = lI b then 0 else -1) ∧ (if lI a > lI b then (1 : Int) else if lI a = lI b then 0 else -1) ≤ 1 := by
  by_cases c1 : lI a > lI b
  · rw [if_pos c1]; omega
  · rw [if_neg c1]
    by_cases c2 : lI a = lI b
    · rw [if_pos c2]; omega
    · rw [if_neg c2]; omega
/-- an item's word and bit -/
theorem item_shr {i : Int} (h : 0 ≤ i ∧ i < 448) : iI i >>> (iI 6 &&& 31) = iI (i / 64) := by
  obtain ⟨n, rfl⟩ := Int.eq_ofNat_of_zero_le h.1
  have key : ∀ m : Fin 448, iI (m.val : Int) >>> (iI 6 &&& 31) = iI ((m.val : Int) / 64) := by decide +kernel
  exact key ⟨n, by omega⟩
theorem item_and {i : Int} (h : 0 ≤ i ∧ i < 448) : iI i &&& iI 63 = iI (i % 64) := by
  obtain ⟨n, rfl⟩ := Int.eq_ofNat_of_zero_le h.1
  have key : ∀ m : Fin 448, iI (m.val : Int) &&& iI 63 = iI ((m.val : Int) % 64) := by decide +kernel
  exact key ⟨n, by omega⟩
/-- the state's set at region k (its long array at k): item i is in -/
def sH (R : xR) (k i : Int) : Prop := lb (R k (i / 64)) (i % 64)
