/-! pure rows: the desk's search for repairs -/
def dEv (R : xR) (p : Int) : xEn := (R 1 5, R 8, R 6, R 7, p)
/-- the first 41 -/
def tk (D : List (List Int × Int)) : List (List Int × Int) := D.take 41
theorem tk_app {X B : List (List Int × Int)} : tk (tk X ++ B) = tk (X ++ B) := by
  unfold tk
  by_cases c : X.length ≤ 41
  · rw [List.take_of_length_le c]
  · have h1 : (X.take 41).length = 41 := by rw [List.length_take]; omega
    rw [List.take_append_of_le_length (by omega), List.take_append_of_le_length (by omega), List.take_take]
    rfl
theorem tk_le {X : List (List Int × Int)} (h : X.length ≤ 41) : tk X = X := List.take_of_length_le h
theorem tk_full {X B : List (List Int × Int)} (h : X.length = 41) : tk (X ++ B) = X := by
  unfold tk
  rw [List.take_append_of_le_length (by omega), List.take_of_length_le (by omega)]
theorem srF_snoc {g : xGr} {a : auT} {e : xEn} {cost guard : Int} {f : Nat} {st : List Int} : ∀ (m : Nat) (c : Int), srF g a e cost guard f st (m + 1) c = srF g a e cost guard f st m c ++ sr g a e cost guard f st (c + m) := by
  intro m
  induction m with
  | zero =>
    intro c
    show sr g a e cost guard f st c ++ [] = [] ++ sr g a e cost guard f st (c + 0)
    rw [List.append_nil, List.nil_append, Int.add_zero]
  | succ m ih =>
    intro c
    show sr g a e cost guard f st c ++ srF g a e cost guard f st (m + 1) (c + 1) = (sr g a e cost guard f st c ++ srF g a e cost guard f st m (c + 1)) ++ sr g a e cost guard f st (c + ((m + 1 : Nat) : Int))
    rw [ih, List.append_assoc, show c + 1 + (m : Int) = c + ((m + 1 : Nat) : Int) by omega]
/-- the desk's list of what was found -/
def dFd (R : xR) (D : List (List Int × Int)) : Prop := D.length ≤ 41 ∧ R 1 21 = (D.length : Int) ∧ ∀ (k : Nat) (q : List Int × Int), D[k]? = some q → R 20 (k : Int) = (q.1.length : Int) ∧ R 21 (k : Int) = q.2 ∧ ∀ i : Nat, i < q.1.length → R (450 + (k : Int)) (i : Int) = q.1.getD (q.1.length - 1 - i) 0
/-- the steps made, the new text so far -/
def dSk (R : xR) (st : List Int) : Prop := ∀ i : Nat, i < st.length → R 18 (i : Int) = st.getD (st.length - 1 - i) 0
def dNw (R : xR) (e : xEn) (st : List Int) : Prop := ∀ k, 0 ≤ k → k < (ndP e st).1 → R 17 k = (ndP e st).2.2.2.2 k
/-- what the search leaves alone -/
def dFz (R R1 : xR) : Prop := (∀ b, b ≠ 1 → b ≠ 16 → b ≠ 17 → b ≠ 18 → b ≠ 20 → b ≠ 21 → ¬ (450 ≤ b ∧ b < 491) → R1 b = R b) ∧ ∀ j, j ≠ 21 → R1 1 j = R 1 j
theorem dFz.rf {R : xR} : dFz R R := ⟨fun _ _ _ _ _ _ _ _ => rfl, fun _ _ => rfl⟩
theorem dFz.trans {R R1 R2 : xR} (h : dFz R R1) (h1 : dFz R1 R2) : dFz R R2 := ⟨fun b a1 a2 a3 a4 a5 a6 a7 => (h1.1 b a1 a2 a3 a4 a5 a6 a7).trans (h.1 b a1 a2 a3 a4 a5 a6 a7), fun j hj => (h1.2 j hj).trans (h.2 j hj)⟩
theorem dFz.ev {R R1 : xR} (h : dFz R R1) (p : Int) : dEv R1 p = dEv R p := by
  unfold dEv
  rw [h.2 5 (by decide), h.1 8 (by decide) (by decide) (by decide) (by decide) (by decide) (by decide) (by decide), h.1 6 (by decide) (by decide) (by decide) (by decide) (by decide) (by decide) (by decide), h.1 7 (by decide) (by decide) (by decide) (by decide) (by decide) (by decide) (by decide)]
theorem dFz.w16 {R R1 : xR} (h : ∀ b, b ≠ 16 → R1 b = R b) : dFz R R1 := ⟨fun b _ a2 _ _ _ _ _ => h b a2, fun j _ => by rw [h 1 (by decide)]⟩
theorem dFz.up {R R1 R2 : xR} {b i v : Int} (h : dFz R R1) (e : R2 = xup R1 b i v) (hb : b = 17 ∨ b = 18 ∨ b = 20 ∨ b = 21 ∨ (450 ≤ b ∧ b < 491)) : dFz R R2 := ⟨fun c a1 a2 a3 a4 a5 a6 a7 => by rw [← h.1 c a1 a2 a3 a4 a5 a6 a7]; funext j; exact xr_o e (by omega), fun j hj => by rw [xr_o e (by omega)]; exact h.2 j hj⟩
/-- all that the search needs -/
def lkC (σ : xS) (R : xR) (G : xGr) (a : auT) (u υ : Int → Int) (m eU : Int) (capU : Nat) (p : Int) : Prop := dUs σ R G u m υ eU capU ∧ dCo G a ∧ dLd G a u m R ∧ enOk (dEv R p)
theorem lkC.fz {σ : xS} {R R1 : xR} {G : xGr} {a : auT} {u υ : Int → Int} {m eU : Int} {capU : Nat} {p : Int} (h : lkC σ R G a u υ m eU capU p) (hz : dFz R R1) : lkC σ R1 G a u υ m eU capU p := by
  obtain ⟨h1, h2, h3, h4⟩ := h
  have hu := h1.2.2.1
  have k1 : ∀ b, 1000 ≤ b → R1 b = R b := fun b hb => hz.1 b (by omega) (by omega) (by omega) (by omega) (by omega) (by omega) (by omega)
  refine ⟨h1.keep (hz.1 3 (by decide) (by decide) (by decide) (by decide) (by decide) (by decide) (by decide)) (k1 eU hu) (fun j j0 j1 => ?_), h2, h3.keep h2.2.1.2.2.1 (fun k k0 k1 => hz.1 _ (by omega) (by omega) (by omega) (by omega) (by omega) (by omega) (by omega)), by rw [hz.ev]; exact h4⟩
  have := (h1.2.2.2 j j0 j1).2.2.1
  exact ⟨k1 _ (by omega), k1 _ (by omega)⟩
/-- a row of steps to go on with -/
def ndI (e : xEn) (st : List Int) (cost : Int) : Prop := stOk st ∧ ndV e st ∧ (ndP e st).2.2.2.1 ≤ 3 ∧ (ndP e st).2.2.1 ≤ cost
/-- what a search behind the row st leaves -/
def lkP (e : xEn) (R : xR) (n : Int) (l : Int) (D F : List (List Int × Int)) (R1 : xR) : Prop := dFz R R1 ∧ dFd R1 (tk (D ++ F)) ∧ (∀ k, 0 ≤ k → k < n → R1 17 k = R 17 k) ∧ (∀ i, 0 ≤ i → i < l → R1 18 i = R 18 i)
theorem lkP.zero {e : xEn} {R : xR} {n l : Int} {D : List (List Int × Int)} (h : dFd R D) : lkP e R n l D [] R := ⟨dFz.rf, by rw [List.append_nil, tk_le h.1]; exact h, fun _ _ _ => rfl, fun _ _ _ => rfl⟩
theorem dFd.keep {R R1 : xR} {D : List (List Int × Int)} (h : dFd R D) (h1 : R1 1 21 = R 1 21) (h2 : ∀ b, b = 20 ∨ b = 21 ∨ (450 ≤ b ∧ b < 491) → R1 b = R b) : dFd R1 D := by
  refine ⟨h.1, h1.trans h.2.1, fun k q hq => ?_⟩
  have hk : k < D.length := by
    rcases Nat.lt_or_ge k D.length with c | c
    · exact c
    · rw [List.getElem?_eq_none c] at hq; cases hq
  have := h.1
  obtain ⟨a1, a2, a3⟩ := h.2.2 k q hq
  exact ⟨by rw [h2 20 (by decide)]; exact a1, by rw [h2 21 (by decide)]; exact a2, fun i hi => by rw [h2 (450 + (k : Int)) (by omega)]; exact a3 i hi⟩
/-- one more is kept -/
theorem dFd.add {R R1 : xR} {D : List (List Int × Int)} {st : List Int} {z : Int} (h : dFd R D) (h40 : D.length ≤ 40) (h1 : R1 1 21 = (D.length : Int) + 1) (h2 : ∀ b, b ≠ (D.length : Int) → R1 20 b = R 20 b ∧ R1 21 b = R 21 b) (h3 : R1 20 (D.length : Int) = (st.length : Int)) (h4 : R1 21 (D.length : Int) = z) (h5 : ∀ b, 450 ≤ b → b < 450 + (D.length : Int) → R1 b = R b) (h6 : ∀ i : Nat, i < st.length → R1 (450 + (D.length : Int)) (i : Int) = st.getD (st.length - 1 - i) 0) : dFd R1 (D ++ [(st, z)]) := by
  refine ⟨by rw [List.length_append]; show D.length + 1 ≤ 41; omega, by rw [h1, List.length_append]; show (D.length : Int) + 1 = ((D.length + 1 : Nat) : Int); omega, fun k q hq => ?_⟩
  by_cases c : k < D.length
  · rw [List.getElem?_append_left c] at hq
    obtain ⟨a1, a2, a3⟩ := h.2.2 k q hq
    have e := h2 k (by omega)
    exact ⟨e.1.trans a1, e.2.trans a2, fun i hi => by rw [h5 _ (by omega) (by omega)]; exact a3 i hi⟩
  · by_cases c2 : k = D.length
    · rw [c2, List.getElem?_append_right (Nat.le_refl _), Nat.sub_self] at hq
      have hq' : some (st, z) = some q := hq
      cases hq'
      rw [c2]
      exact ⟨h3, h4, h6⟩
    · rw [List.getElem?_eq_none (by rw [List.length_append]; show D.length + 1 ≤ k; omega)] at hq
      cases hq
