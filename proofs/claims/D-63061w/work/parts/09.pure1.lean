/-! pure rows: truth values, bits as whole numbers, the grammar and what comes of it -/
noncomputable def zc (p : Prop) : Int := @ite Int p (Classical.propDecidable p) 1 0
theorem zc_t {p : Prop} (h : p) : zc p = 1 := @if_pos p (Classical.propDecidable p) h Int 1 0
theorem zc_f {p : Prop} (h : ¬ p) : zc p = 0 := @if_neg p (Classical.propDecidable p) h Int 1 0
theorem zc_or (p : Prop) : zc p = 0 ∨ zc p = 1 := by
  by_cases h : p
  · exact Or.inr (zc_t h)
  · exact Or.inl (zc_f h)
theorem zc_ne {p : Prop} : zc p ≠ 0 ↔ p := by
  by_cases h : p
  · rw [zc_t h]; simp [h]
  · rw [zc_f h]; simp [h]
theorem zc_eq0 {p : Prop} : zc p = 0 ↔ ¬ p := by
  by_cases h : p
  · rw [zc_t h]; simp [h]
  · rw [zc_f h]; simp [h]
theorem zc_eq1 {p : Prop} : zc p = 1 ↔ p := by
  by_cases h : p
  · rw [zc_t h]; simp [h]
  · rw [zc_f h]; simp [h]
theorem zc_iff {p q : Prop} (h : p ↔ q) : zc p = zc q := by rw [propext h]
/-- a run of places all of which are good, by one more -/
theorem zca_t {p : Int → Prop} {a k i : Int} (h : i = zc (∀ j, a ≤ j → j < k → p j)) (h1 : ¬ i = 0) (hp : p k) : (1 : Int) = zc (∀ j, a ≤ j → j < k + 1 → p j) := by
  rw [h] at h1
  have h2 := zc_ne.mp h1
  refine (zc_t (fun j h3 h4 => ?_)).symm
  by_cases e : j = k
  · rw [e]; exact hp
  · exact h2 j h3 (by omega)
theorem zca_0 {p : Int → Prop} {a k i : Int} (h : i = zc (∀ j, a ≤ j → j < k → p j)) (h1 : i = 0) : (0 : Int) = zc (∀ j, a ≤ j → j < k + 1 → p j) := by
  rw [h] at h1
  have h2 := zc_eq0.mp h1
  exact (zc_f (fun h3 => h2 (fun j h4 h5 => h3 j h4 (by omega)))).symm
theorem zca_f {p : Int → Prop} {a k : Int} (hk : a ≤ k) (hp : ¬ p k) : (0 : Int) = zc (∀ j, a ≤ j → j < k + 1 → p j) := (zc_f (fun h3 => hp (h3 k hk (by omega)))).symm
theorem zca_e {p : Int → Prop} {a k : Int} (hk : k ≤ a) : (1 : Int) = zc (∀ j, a ≤ j → j < k → p j) := (zc_t (fun j h1 h2 => by omega)).symm
theorem iI_or (a b : Nat) : iI (a : Int) ||| iI (b : Int) = iI ((a ||| b : Nat) : Int) := by
  rw [iI_nat, iI_nat, iI_nat]
  unfold nI
  apply Int32.toBitVec_inj.mp
  show (BitVec.ofNat 32 a ||| BitVec.ofNat 32 b) = BitVec.ofNat 32 (a ||| b)
  rw [BitVec.ofNat_or]
theorem iI_and (a b : Nat) : iI (a : Int) &&& iI (b : Int) = iI ((a &&& b : Nat) : Int) := by
  rw [iI_nat, iI_nat, iI_nat]
  unfold nI
  apply Int32.toBitVec_inj.mp
  show (BitVec.ofNat 32 a &&& BitVec.ofNat 32 b) = BitVec.ofNat 32 (a &&& b)
  rw [BitVec.ofNat_and]
theorem iI_shl1N : ∀ x : Nat, x < 7 → iI 1 <<< (iI (x : Int) &&& 31) = iI ((2 ^ x : Nat) : Int) := by decide +kernel
/-- 1 << x -/
def p2 (x : Int) : Int := ((2 ^ x.toNat : Nat) : Int)
theorem iI_shl1 {x : Int} (h : 0 ≤ x ∧ x < 7) : iI 1 <<< (iI x &&& 31) = iI (p2 x) := by
  obtain ⟨n, rfl⟩ := Int.eq_ofNat_of_zero_le h.1
  exact iI_shl1N n (by omega)
/-- or, and of numbers that are not below zero -/
def ior (a b : Int) : Int := ((a.toNat ||| b.toNat : Nat) : Int)
def iand (a b : Int) : Int := ((a.toNat &&& b.toNat : Nat) : Int)
theorem iI_ior {a b : Int} (ha : 0 ≤ a) (hb : 0 ≤ b) : iI a ||| iI b = iI (ior a b) := by
  obtain ⟨m, rfl⟩ := Int.eq_ofNat_of_zero_le ha
  obtain ⟨n, rfl⟩ := Int.eq_ofNat_of_zero_le hb
  exact iI_or m n
theorem iI_iand {a b : Int} (ha : 0 ≤ a) (hb : 0 ≤ b) : iI a &&& iI b = iI (iand a b) := by
  obtain ⟨m, rfl⟩ := Int.eq_ofNat_of_zero_le ha
  obtain ⟨n, rfl⟩ := Int.eq_ofNat_of_zero_le hb
  exact iI_and m n
/-- bit t of z -/
def hb (z t : Int) : Prop := z.toNat.testBit t.toNat = true
theorem hb_ior (a b t : Int) : hb (ior a b) t ↔ hb a t ∨ hb b t := by
  unfold hb ior
  rw [Int.toNat_natCast, Nat.testBit_or, Bool.or_eq_true]
theorem hb_iand (a b t : Int) : hb (iand a b) t ↔ hb a t ∧ hb b t := by
  unfold hb iand
  rw [Int.toNat_natCast, Nat.testBit_and, Bool.and_eq_true]
theorem hb_0 (t : Int) : ¬ hb 0 t := by
  unfold hb
  simp
theorem hb_p2 {x t : Int} (hx : 0 ≤ x) (ht : 0 ≤ t) : hb (p2 x) t ↔ t = x := by
  unfold hb p2
  rw [Int.toNat_natCast, Nat.testBit_two_pow]
  simp only [decide_eq_true_eq]
  omega
/-- small sets: below 2^7 -/
def s7 (a : Int) : Prop := 0 ≤ a ∧ a < 128
theorem ior_s7 {a b : Int} (ha : s7 a) (hb : s7 b) : s7 (ior a b) := by
  obtain ⟨a1, a2⟩ := ha
  obtain ⟨b1, b2⟩ := hb
  unfold ior
  have h : a.toNat ||| b.toNat < 2 ^ 7 := Nat.or_lt_two_pow (by omega) (by omega)
  constructor
  · omega
  · have : ((a.toNat ||| b.toNat : Nat) : Int) < ((2 ^ 7 : Nat) : Int) := by exact_mod_cast h
    simpa using this
theorem p2_s7 {x : Int} (h : 0 ≤ x ∧ x < 7) : s7 (p2 x) := by
  obtain ⟨n, rfl⟩ := Int.eq_ofNat_of_zero_le h.1
  have h2 : ∀ n : Nat, n < 7 → s7 (p2 (n : Int)) := by
    intro n hn
    unfold s7 p2
    rw [Int.toNat_natCast]
    have h3 : 2 ^ n < 2 ^ 7 := Nat.pow_lt_pow_right (by omega) hn
    constructor
    · exact Int.natCast_nonneg _
    · have : ((2 ^ n : Nat) : Int) < ((2 ^ 7 : Nat) : Int) := by exact_mod_cast h3
      simpa using this
  exact h2 n (by omega)
theorem s7_ext {a b : Int} (ha : s7 a) (hb' : s7 b) (h : ∀ t, 0 ≤ t → t < 7 → (hb a t ↔ hb b t)) : a = b := by
  have e : a.toNat = b.toNat := by
    apply Nat.eq_of_testBit_eq
    intro i
    by_cases hi : i < 7
    · have h1 := h (i : Int) (by omega) (by omega)
      unfold hb at h1
      rw [Int.toNat_natCast] at h1
      cases h2 : a.toNat.testBit i <;> cases h3 : b.toNat.testBit i <;> simp_all
    · have e7 : 2 ^ 7 ≤ 2 ^ i := Nat.pow_le_pow_right (by omega) (by omega)
      obtain ⟨a1, a2⟩ := ha
      obtain ⟨b1, b2⟩ := hb'
      rw [Nat.testBit_lt_two_pow (by omega), Nat.testBit_lt_two_pow (by omega)]
  obtain ⟨a1, a2⟩ := ha
  obtain ⟨b1, b2⟩ := hb'
  omega
theorem s7_ne0 {a : Int} (ha : s7 a) : a ≠ 0 ↔ ∃ t, 0 ≤ t ∧ t < 7 ∧ hb a t := by
  constructor
  · intro h
    apply Classical.byContradiction
    intro h2
    refine h (s7_ext ha ⟨by omega, by omega⟩ (fun t h3 h4 => ⟨fun h5 => (h2 ⟨t, h3, h4, h5⟩).elim, fun h5 => (hb_0 t h5).elim⟩))
  · rintro ⟨t, -, -, h⟩ e
    rw [e] at h
    exact hb_0 t h
theorem ior_eq {a b : Int} (ha : s7 a) (hb' : s7 b) : ior a b = a ↔ ∀ t, 0 ≤ t → t < 7 → hb b t → hb a t := by
  constructor
  · intro h t _ _ h1
    rw [← h, hb_ior]
    exact Or.inr h1
  · intro h
    refine s7_ext (ior_s7 ha hb') ha (fun t h1 h2 => ?_)
    rw [hb_ior]
    exact ⟨fun h3 => h3.elim id (h t h1 h2), Or.inl⟩
theorem hb_lt {a t : Int} (ha : s7 a) (h : hb a t) (ht : 0 ≤ t) : t < 7 := by
  apply Classical.byContradiction
  intro h2
  obtain ⟨a1, a2⟩ := ha
  unfold hb at h
  have e7 : 2 ^ 7 ≤ 2 ^ t.toNat := Nat.pow_le_pow_right (by omega) (by omega)
  rw [Nat.testBit_lt_two_pow (by omega)] at h
  cases h
theorem ior_assoc (a b c : Int) : ior (ior a b) c = ior a (ior b c) := by
  unfold ior
  rw [Int.toNat_natCast, Int.toNat_natCast, Nat.or_assoc]
theorem ior_0 {a : Int} (h : 0 ≤ a) : ior 0 a = a := by
  unfold ior
  simp
  omega
-- ===== grammars: how many rules, their left names (0..5), lengths, right sides (letters 0..5, names 6..11) =====
abbrev xGr : Type := Int × (Int → Int) × (Int → Int) × (Int → Int → Int)
def gWf (g : xGr) : Prop := 0 ≤ g.1 ∧ g.1 ≤ 10 ∧ ∀ r, 0 ≤ r → r < g.1 → (0 ≤ g.2.1 r ∧ g.2.1 r ≤ 5) ∧ (0 ≤ g.2.2.1 r ∧ g.2.2.1 r ≤ 4) ∧ ∀ k, 0 ≤ k → k < g.2.2.1 r → 0 ≤ g.2.2.2 r k ∧ g.2.2.2 r k ≤ 11
def gCm (g : xGr) (x : Int) : Prop := ∀ P : Int → Prop, (∀ r, 0 ≤ r → r < g.1 → (∀ k, 0 ≤ k → k < g.2.2.1 r → g.2.2.2 r k < 6 ∨ P (g.2.2.2 r k - 6)) → P (g.2.1 r)) → P x
def gUs (g : xGr) (r : Int) : Prop := 0 ≤ r ∧ r < g.1 ∧ ∀ k, 0 ≤ k → k < g.2.2.1 r → g.2.2.2 r k < 6 ∨ gCm g (g.2.2.2 r k - 6)
def gEm (g : xGr) (x : Int) : Prop := ∀ P : Int → Prop, (∀ r, gUs g r → (∀ k, 0 ≤ k → k < g.2.2.1 r → 6 ≤ g.2.2.2 r k ∧ P (g.2.2.2 r k - 6)) → P (g.2.1 r)) → P x
def gFi (g : xGr) (x t : Int) : Prop := ∀ Q : Int → Int → Prop, (∀ r j t, gUs g r → 0 ≤ j → j < g.2.2.1 r → (∀ k, 0 ≤ k → k < j → 6 ≤ g.2.2.2 r k ∧ gEm g (g.2.2.2 r k - 6)) → (g.2.2.2 r j < 6 ∧ t = g.2.2.2 r j ∨ 6 ≤ g.2.2.2 r j ∧ Q (g.2.2.2 r j - 6) t) → Q (g.2.1 r) t) → Q x t
theorem gCm.mk {g : xGr} {r : Int} (h : gUs g r) : gCm g (g.2.1 r) := fun P hP => hP r h.1 h.2.1 (fun k h1 h2 => (h.2.2 k h1 h2).imp id (fun h3 => h3 P hP))
theorem gEm.mk {g : xGr} {r : Int} (h : gUs g r) (he : ∀ k, 0 ≤ k → k < g.2.2.1 r → 6 ≤ g.2.2.2 r k ∧ gEm g (g.2.2.2 r k - 6)) : gEm g (g.2.1 r) := fun P hP => hP r h (fun k h1 h2 => ⟨(he k h1 h2).1, (he k h1 h2).2 P hP⟩)
theorem gFi.mk {g : xGr} {r j t : Int} (h : gUs g r) (h0 : 0 ≤ j) (h1 : j < g.2.2.1 r) (he : ∀ k, 0 ≤ k → k < j → 6 ≤ g.2.2.2 r k ∧ gEm g (g.2.2.2 r k - 6)) (ht : g.2.2.2 r j < 6 ∧ t = g.2.2.2 r j ∨ 6 ≤ g.2.2.2 r j ∧ gFi g (g.2.2.2 r j - 6) t) : gFi g (g.2.1 r) t := fun Q hQ => hQ r j t h h0 h1 he (ht.imp id (fun h3 => ⟨h3.1, h3.2 Q hQ⟩))
/-- the letters with which rows begin that come of a rule's right side from place q on, and what may follow (t) when nothing may come of it -/
def gFs (g : xGr) (r q t t' : Int) : Prop :=
  (∃ j, q ≤ j ∧ j < g.2.2.1 r ∧ (∀ k, q ≤ k → k < j → 6 ≤ g.2.2.2 r k ∧ gEm g (g.2.2.2 r k - 6)) ∧ (g.2.2.2 r j < 6 ∧ t' = g.2.2.2 r j ∨ 6 ≤ g.2.2.2 r j ∧ gFi g (g.2.2.2 r j - 6) t')) ∨
  ((∀ k, q ≤ k → k < g.2.2.1 r → 6 ≤ g.2.2.2 r k ∧ gEm g (g.2.2.2 r k - 6)) ∧ t' = t)
theorem V.forget {X : xCtx} {M : xM} {B : xB} {σ : xS} {R : xR} {cn sn pc : Nat} {L : List (Option Value)} {st : List Value} (i : Nat) (L' : List (Option Value)) (h : L.set i none = L') (k : V X M B σ R cn sn pc L' st) : V X M B σ R cn sn pc L st := by
  subst h
  refine V.less (by rw [List.length_set]) (fun j v hj => ?_) k
  by_cases e : j = i
  · subst e
    by_cases hl : j < L.length
    · rw [List.getElem?_set_self hl] at hj; cases hj
    · rw [List.getElem?_eq_none (by rw [List.length_set]; omega)] at hj; cases hj
  · rw [List.getElem?_set_ne (fun q => e q.symm)] at hj
    exact hj
