/-! pure rows: follows, note, search over the model's memory -/
def mEnv (R : xR) : xEn := (R 30 15, R 48, R 51, R 52, R 30 16)
def mRow (R : xR) : List Int → Prop
  | [] => True
  | c :: st => R 57 (st.length : Int) = c ∧ mRow R st
theorem mRow.suf {R : xR} : ∀ {p s : List Int}, mRow R (p ++ s) → mRow R s := by
  intro p
  induction p with
  | nil => intro s h; exact h
  | cons c p ih => intro s h; exact ih h.2
theorem mRow.kept {R R1 : xR} {st : List Int} (h : mRow R st) (e : ∀ i, 0 ≤ i → i < st.length → R1 57 i = R 57 i) : mRow R1 st := by
  induction st with
  | nil => trivial
  | cons c st ih =>
    refine ⟨?_, ih h.2 (fun i a b => e i a (by rw [List.length_cons]; omega))⟩
    rw [e _ (by omega) (by rw [List.length_cons]; omega)]
    exact h.1
theorem mRow.get {R : xR} : ∀ {st : List Int}, mRow R st → ∀ i : Nat, i < st.length → R 57 (i : Int) = st.getD (st.length - 1 - i) 0 := by
  intro st
  induction st with
  | nil => intro _ i hi; cases hi
  | cons c st ih =>
    intro h i hi
    rw [List.length_cons] at hi ⊢
    by_cases e : i = st.length
    · subst e
      rw [show st.length + 1 - 1 - st.length = 0 by omega]
      exact h.1
    · have := ih h.2 i (by omega)
      rw [this, show st.length + 1 - 1 - i = (st.length - 1 - i) + 1 by omega]
      rfl
/-- follows on its way: behind the steps sk -/
def mFo (R R1 : xR) (sk : List Int) (sum passes : Int) : Prop := (∀ p q, p ≠ 49 → ¬ (p = 30 ∧ (q = 27 ∨ q = 28)) → R1 p q = R p q) ∧ ndV (mEnv R) sk ∧ sum = (ndP (mEnv R) sk).2.2.1 ∧ passes = (ndP (mEnv R) sk).2.2.2.1 ∧ R1 30 27 = (ndP (mEnv R) sk).1 ∧ R1 30 28 = (ndP (mEnv R) sk).2.1 ∧ ∀ j, 0 ≤ j → j < (ndP (mEnv R) sk).1 → R1 49 j = (ndP (mEnv R) sk).2.2.2.2 j
theorem mFo.put {R R1 R2 R3 R4 : xR} {sk : List Int} {sum passes c : Int} (h : mFo R R1 sk sum passes) (ho : ndO (mEnv R) sk c) (hc : c < 6) (e2 : R2 = xup R1 49 (R1 30 27) c) (e3 : R3 = xup R2 30 27 (R1 30 27 + 1)) (e4 : R4 = xup R3 30 28 (R1 30 28)) : mFo R R4 (c :: sk) (sum + R 51 c) passes := by
  obtain ⟨h1, h2, h3, h4, h5, h6, h7⟩ := h
  have en : ndP (mEnv R) (c :: sk) = ((ndP (mEnv R) sk).1 + 1, (ndP (mEnv R) sk).2.1, (ndP (mEnv R) sk).2.2.1 + R 51 c, (ndP (mEnv R) sk).2.2.2.1, up1 (ndP (mEnv R) sk).2.2.2.2 (ndP (mEnv R) sk).1 c) := if_pos hc
  unfold mFo
  rw [en]
  refine ⟨fun p q a b => ?_, ⟨h2, ho⟩, by show sum + R 51 c = _ + R 51 c; omega, h4, ?_, ?_, fun j a b => ?_⟩
  · rw [xr_up e4 (by omega), xr_up e3 (by omega), xr_o e2 a]; exact h1 p q a b
  · rw [xr_d e4 (by decide), xr_s e3, h5]
  · rw [xr_s e4, h6]
  · rw [xr_o e4 (by decide), xr_o e3 (by decide)]
    show _ = up1 (ndP (mEnv R) sk).2.2.2.2 (ndP (mEnv R) sk).1 c j
    by_cases ej : j = (ndP (mEnv R) sk).1
    · rw [ej, up1_s, ← h5, xr_s e2]
    · rw [up1_n _ _ ej, xr_d e2 (by omega)]
      have b' : j < (ndP (mEnv R) sk).1 + 1 := b
      exact h7 j a (by omega)
theorem mFo.take {R R1 R4 : xR} {sk : List Int} {sum passes : Int} (h : mFo R R1 sk sum passes) (ho : ndO (mEnv R) sk 6) (e4 : R4 = xup R1 30 28 (R1 30 28 + 1)) : mFo R R4 (6 :: sk) (sum + R 52 (R 48 (R1 30 28))) passes := by
  obtain ⟨h1, h2, h3, h4, h5, h6, h7⟩ := h
  have en : ndP (mEnv R) (6 :: sk) = ((ndP (mEnv R) sk).1, (ndP (mEnv R) sk).2.1 + 1, (ndP (mEnv R) sk).2.2.1 + R 52 (R 48 (ndP (mEnv R) sk).2.1), (ndP (mEnv R) sk).2.2.2.1, (ndP (mEnv R) sk).2.2.2.2) := rfl
  unfold mFo
  rw [en]
  refine ⟨fun p q a b => ?_, ⟨h2, ho⟩, ?_, h4, ?_, ?_, fun j a b => ?_⟩
  · rw [xr_up e4 (by omega)]; exact h1 p q a b
  · show sum + R 52 (R 48 (R1 30 28)) = _ + R 52 (R 48 (ndP (mEnv R) sk).2.1)
    rw [h6, h3]
  · rw [xr_d e4 (by decide)]; exact h5
  · rw [xr_s e4, h6]
  · rw [xr_o e4 (by decide)]; exact h7 j a b
theorem mFo.pass {R R1 R2 R3 R4 : xR} {sk : List Int} {sum passes c : Int} (h : mFo R R1 sk sum passes) (ho : ndO (mEnv R) sk c) (hc : c = 7) (e2 : R2 = xup R1 49 (R1 30 27) (R 48 (R1 30 28))) (e3 : R3 = xup R2 30 27 (R1 30 27 + 1)) (e4 : R4 = xup R3 30 28 (R1 30 28 + 1)) : mFo R R4 (c :: sk) (sum + 0) (passes + 1) := by
  obtain ⟨h1, h2, h3, h4, h5, h6, h7⟩ := h
  subst hc
  have en : ndP (mEnv R) (7 :: sk) = ((ndP (mEnv R) sk).1 + 1, (ndP (mEnv R) sk).2.1 + 1, (ndP (mEnv R) sk).2.2.1, (ndP (mEnv R) sk).2.2.2.1 + 1, up1 (ndP (mEnv R) sk).2.2.2.2 (ndP (mEnv R) sk).1 (R 48 (ndP (mEnv R) sk).2.1)) := rfl
  unfold mFo
  rw [en]
  refine ⟨fun p q a b => ?_, ⟨h2, ho⟩, by show sum + 0 = (ndP (mEnv R) sk).2.2.1; omega, by show passes + 1 = (ndP (mEnv R) sk).2.2.2.1 + 1; omega, ?_, ?_, fun j a b => ?_⟩
  · rw [xr_up e4 (by omega), xr_up e3 (by omega), xr_o e2 a]; exact h1 p q a b
  · rw [xr_d e4 (by decide), xr_s e3, h5]
  · rw [xr_s e4, h6]
  · rw [xr_o e4 (by decide), xr_o e3 (by decide)]
    show _ = up1 (ndP (mEnv R) sk).2.2.2.2 (ndP (mEnv R) sk).1 (R 48 (ndP (mEnv R) sk).2.1) j
    by_cases ej : j = (ndP (mEnv R) sk).1
    · rw [ej, up1_s, ← h5, xr_s e2, h6]
    · rw [up1_n _ _ ej, xr_d e2 (by omega)]
      have b' : j < (ndP (mEnv R) sk).1 + 1 := b
      exact h7 j a (by omega)
/-- what follows leaves -/
def mFw (R R1 : xR) (st : List Int) (z : Int) : Prop := (∀ p q, p ≠ 49 → ¬ (p = 30 ∧ (q = 27 ∨ q = 28)) → R1 p q = R p q) ∧
  ((ndV (mEnv R) st ∧ (ndP (mEnv R) st).2.2.2.1 ≤ 3 ∧ z = (ndP (mEnv R) st).2.2.1 ∧ R1 30 27 = (ndP (mEnv R) st).1 ∧ R1 30 28 = (ndP (mEnv R) st).2.1 ∧ ∀ j, 0 ≤ j → j < (ndP (mEnv R) st).1 → R1 49 j = (ndP (mEnv R) st).2.2.2.2 j) ∨
   (¬ (ndV (mEnv R) st ∧ (ndP (mEnv R) st).2.2.2.1 ≤ 3) ∧ z = -1))
theorem ndV.suf {e : xEn} : ∀ {p s : List Int}, ndV e (p ++ s) → ndV e s := by
  intro p
  induction p with
  | nil => intro s h; exact h
  | cons c p ih => intro s h; exact ih h.1
/-- the rows that were found: seven steps each, the last -1, and their reach; forty of them -/
def mFd (R : xR) (D : List (List Int × Int)) : Prop := R 30 22 = (D.length : Int) ∧ ∀ (k : Nat) (q : List Int × Int), D[k]? = some q → k < 40 → (∀ i : Nat, i < 7 → R 55 (7 * (k : Int) + i) = if i < q.1.length then q.1.getD (q.1.length - 1 - i) 0 else -1) ∧ R 56 (k : Int) = q.2
theorem mFd.kept {R R1 : xR} {D : List (List Int × Int)} (h : mFd R D) (e0 : R1 30 22 = R 30 22) (e : ∀ p q, (p = 55 ∨ p = 56) → R1 p q = R p q) : mFd R1 D := by
  refine ⟨e0.trans h.1, fun k q h1 h2 => ⟨fun i hi => ?_, ?_⟩⟩
  · rw [e 55 _ (by omega)]; exact (h.2 k q h1 h2).1 i hi
  · rw [e 56 _ (by omega)]; exact (h.2 k q h1 h2).2
/-- one more is kept: k < 40 -/
theorem mFd.add {R R1 R2 R3 : xR} {D : List (List Int × Int)} {q : List Int × Int} (h : mFd R D) (hD : D.length < 40) (h1 : ∀ i, (i < 7 * (D.length : Int) ∨ 7 * (D.length : Int) + 7 ≤ i) → R1 55 i = R 55 i) (h2 : ∀ i : Nat, i < 7 → R1 55 (7 * (D.length : Int) + i) = if i < q.1.length then q.1.getD (q.1.length - 1 - i) 0 else -1) (h56 : ∀ i, R1 56 i = R 56 i)
    (e2 : R2 = xup R1 56 (D.length : Int) q.2) (e3 : R3 = xup R2 30 22 ((D.length : Int) + 1)) : mFd R3 (D ++ [q]) := by
  refine ⟨by rw [xr_s e3, List.length_append]; show (D.length : Int) + 1 = ((D.length + 1 : Nat) : Int); omega, fun k q' k1 k2 => ?_⟩
  by_cases e : k = D.length
  · subst e
    rw [List.getElem?_append_right (Nat.le_refl _), Nat.sub_self] at k1
    cases k1
    refine ⟨fun i hi => ?_, ?_⟩
    · rw [xr_o e3 (by decide), xr_o e2 (by decide)]; exact h2 i hi
    · rw [xr_o e3 (by decide), xr_s e2]
  · have hk : k < D.length := by
      have := (List.getElem?_eq_some_iff.mp k1).1
      rw [List.length_append] at this
      have : k < D.length + 1 := this
      omega
    rw [List.getElem?_append_left hk] at k1
    obtain ⟨j1, j2⟩ := h.2 k q' k1 k2
    refine ⟨fun i hi => ?_, ?_⟩
    · rw [xr_o e3 (by decide), xr_o e2 (by decide), h1 _ (by omega)]; exact j1 i hi
    · rw [xr_o e3 (by decide), xr_d e2 (by omega), h56]; exact j2
/-- one more is counted alone -/
theorem mFd.cnt {R R3 : xR} {D : List (List Int × Int)} {q : List Int × Int} (h : mFd R D) (hD : ¬ D.length < 40) (e3 : R3 = xup R 30 22 ((D.length : Int) + 1)) : mFd R3 (D ++ [q]) := by
  refine ⟨by rw [xr_s e3, List.length_append]; show (D.length : Int) + 1 = ((D.length + 1 : Nat) : Int); omega, fun k q' k1 k2 => ?_⟩
  rw [List.getElem?_append_left (by omega)] at k1
  obtain ⟨j1, j2⟩ := h.2 k q' k1 k2
  exact ⟨fun i hi => by rw [xr_o e3 (by decide)]; exact j1 i hi, by rw [xr_o e3 (by decide)]; exact j2⟩
theorem ndT_ok {e : xEn} (he : enOk e) {st : List Int} (h1 : stOk st) (h2 : ndV e st) (h4 : (ndP e st).2.2.1 ≤ 3) : (0 ≤ ndN e st ∧ ndN e st ≤ 19) ∧ ∀ k, 0 ≤ k → k < ndN e st → 0 ≤ ndT e st k ∧ ndT e st k < 6 := by
  have hr := ndV.rng he h1 h2
  have h16 := he.1
  refine ⟨by unfold ndN; omega, fun k k1 k2 => ?_⟩
  unfold ndT
  by_cases ck : k < (ndP e st).1
  · rw [if_pos ck]; exact hr.2.2.2.2.2.2.2.2 k k1 ck
  · rw [if_neg ck]
    unfold ndN at k2
    exact he.2.1 _ (by omega) (by omega)
theorem rowM_next {c : Int} {st : List Int} (h : c < 7) (hl : st.length ≤ 6) : rowM ((c + 1) :: st) + 10 ^ (7 - st.length) ≤ rowM (c :: st) ∧ rowM (-1 :: (c + 1) :: st) < rowM (c :: st) := by
  have e1 : (8 - c).toNat = (8 - (c + 1)).toNat + 1 := by omega
  constructor
  · show (8 - (c + 1)).toNat * 10 ^ (7 - st.length) + rowM st + _ ≤ (8 - c).toNat * 10 ^ (7 - st.length) + rowM st
    rw [e1, Nat.succ_mul]
    omega
  · show (8 - (-1 : Int)).toNat * 10 ^ (7 - (st.length + 1)) + ((8 - (c + 1)).toNat * 10 ^ (7 - st.length) + rowM st) < (8 - c).toNat * 10 ^ (7 - st.length) + rowM st
    rw [e1, Nat.succ_mul, show 7 - st.length = (7 - (st.length + 1)) + 1 by omega, Nat.pow_succ]
    have h9 : (8 - (-1 : Int)).toNat = 9 := by decide
    rw [h9]
    have : 0 < 10 ^ (7 - (st.length + 1)) := Nat.pow_pos (by decide)
    omega
theorem rowM_pop {c : Int} {st : List Int} (h : c ≤ 7) : rowM st < rowM (c :: st) := by
  show rowM st < (8 - c).toNat * 10 ^ (7 - st.length) + rowM st
  have h1 : 0 < 10 ^ (7 - st.length) := Nat.pow_pos (by decide)
  have h2 : 1 ≤ (8 - c).toNat := by omega
  have : 1 * 10 ^ (7 - st.length) ≤ (8 - c).toNat * 10 ^ (7 - st.length) := Nat.mul_le_mul_right _ h2
  omega
theorem ndP_pass {e : xEn} : ∀ {st : List Int}, (ndP e st).2.2.2.1 ≤ st.length := by
  intro st
  induction st with
  | nil => exact Int.le_refl 0
  | cons c st ih =>
    have el : ((c :: st).length : Int) = st.length + 1 := by simp
    rw [el]
    show (ndS e (ndP e st) c).2.2.2.1 ≤ _
    unfold ndS
    by_cases c1 : c < 6
    · rw [if_pos c1]; dsimp only; omega
    · rw [if_neg c1]
      by_cases c2 : c = 6
      · rw [if_pos c2]; dsimp only; omega
      · rw [if_neg c2]; dsimp only; omega
