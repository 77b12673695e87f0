/-! pure rows: repair, apply -/
def mFz (R R1 : xR) : Prop := ∀ p q, p ≠ 49 → p ≠ 50 → p ≠ 55 → p ≠ 56 → p ≠ 57 → ¬ (p = 30 ∧ (q = 0 ∨ q = 16 ∨ q = 22 ∨ q = 23 ∨ q = 27 ∨ q = 28)) → R1 p q = R p q
/-- the letters, the text, the costs of the model's memory, and where it goes wrong -/
def mEv (R : xR) (p : Int) : xEn := (R 30 15, R 48, R 51, R 52, p)
theorem mFz.env {R R1 : xR} {p : Int} (h : mFz R R1) (h16 : R1 30 16 = p) : mEnv R1 = mEv R p := by
  unfold mEnv mEv
  have e1 : R1 30 15 = R 30 15 := h _ _ (by decide) (by decide) (by decide) (by decide) (by decide) (by decide)
  have e3 : R1 48 = R 48 := funext fun b => h 48 b (by decide) (by decide) (by decide) (by decide) (by decide) (by omega)
  have e4 : R1 51 = R 51 := funext fun b => h 51 b (by decide) (by decide) (by decide) (by decide) (by decide) (by omega)
  have e5 : R1 52 = R 52 := funext fun b => h 52 b (by decide) (by decide) (by decide) (by decide) (by decide) (by omega)
  rw [e1, h16, e3, e4, e5]
theorem mFz.gm {R R1 : xR} (h : mFz R R1) : gM R1 = gM R := by
  unfold gM
  have e1 : R1 30 3 = R 30 3 := h _ _ (by decide) (by decide) (by decide) (by decide) (by decide) (by decide)
  have e3 : R1 35 = R 35 := funext fun b => h 35 b (by decide) (by decide) (by decide) (by decide) (by decide) (by omega)
  have e4 : R1 36 = R 36 := funext fun b => h 36 b (by decide) (by decide) (by decide) (by decide) (by decide) (by omega)
  have e5 : R1 37 = R 37 := funext fun b => h 37 b (by decide) (by decide) (by decide) (by decide) (by decide) (by omega)
  rw [e1, e3, e4, e5]
theorem mFz.co {R R1 : xR} {a : auT} (h : mFz R R1) (hc : mCo R a) : mCo R1 a := hc.keep (h _ _ (by decide) (by decide) (by decide) (by decide) (by decide) (by decide)) (h _ _ (by decide) (by decide) (by decide) (by decide) (by decide) (by decide)) (fun p q hp => h p q (by omega) (by omega) (by omega) (by omega) (by omega) (by omega))
theorem mFz.s7 {R R1 : xR} (h : mFz R R1) (h7 : ∀ i, 0 ≤ i → i < 2310 → s7 (R 44 i)) : ∀ i, 0 ≤ i → i < 2310 → s7 (R1 44 i) := fun i a b => by rw [h 44 i (by decide) (by decide) (by decide) (by decide) (by decide) (by omega)]; exact h7 i a b
theorem mFz.fr {R R1 R2 : xR} (h : mFz R R1) (h2 : mFr R1 R2) : mFz R R2 := fun p q a b c d e f => (h2 p q a b c d e (by omega)).trans (h p q a b c d e f)
theorem mFz.up {R R1 R2 : xR} {i v : Int} (h : mFz R R1) (e : R2 = xup R1 30 i v) (hi : i = 0 ∨ i = 16 ∨ i = 22 ∨ i = 23 ∨ i = 27 ∨ i = 28) : mFz R R2 := fun p q a b c d f g => (xr_up e (by omega)).trans (h p q a b c d f g)
theorem mFz.refl {R : xR} : mFz R R := fun _ _ _ _ _ _ _ _ => rfl
/-- what repair finds, and its price -/
noncomputable def rsl (g : xGr) (a : auT) (e : xEn) (guard : Int) : List (List Int × Int) × Int :=
  @ite _ (srA g a e 1 guard ≠ []) (Classical.propDecidable _) (srA g a e 1 guard, 1) (@ite _ (srA g a e 2 guard ≠ []) (Classical.propDecidable _) (srA g a e 2 guard, 2) (@ite _ (srA g a e 3 guard ≠ []) (Classical.propDecidable _) (srA g a e 3 guard, 3) ([], 0)))
/-- repair on its way: before cost c -/
def rI (g : xGr) (a : auT) (e : xEn) (guard c : Int) (D : List (List Int × Int)) : Prop := (1 ≤ c ∧ c ≤ 4) ∧ (∀ c', 1 ≤ c' → c' < c - 1 → srA g a e c' guard = []) ∧ (c = 1 → D = []) ∧ (2 ≤ c → D = srA g a e (c - 1) guard)
theorem rI.next {g : xGr} {a : auT} {e : xEn} {guard c : Int} {D : List (List Int × Int)} (h : rI g a e guard c D) (hD : D = []) (hc : c < 4) : rI g a e guard (c + 1) (srA g a e c guard) := by
  obtain ⟨h1, h2, h3, h4⟩ := h
  refine ⟨by omega, fun c' a1 a2 => ?_, fun q => by omega, fun _ => by rw [show c + 1 - 1 = c by omega]⟩
  by_cases e1 : c' < c - 1
  · exact h2 c' a1 e1
  · have e2 : c' = c - 1 := by omega
    rw [e2, ← h4 (by omega)]
    exact hD
theorem rI.fin {g : xGr} {a : auT} {e : xEn} {guard c : Int} {D : List (List Int × Int)} (h : rI g a e guard c D) (hx : c = 4 ∨ D ≠ []) : rsl g a e guard = (D, @ite Int (D = []) (Classical.propDecidable _) 0 (c - 1)) := by
  obtain ⟨h1, h2, h3, h4⟩ := h
  unfold rsl
  have hc : c = 2 ∨ c = 3 ∨ c = 4 := by
    rcases hx with q | q
    · omega
    · have : c ≠ 1 := fun q2 => q (h3 q2)
      omega
  have n1 : ∀ {x : List (List Int × Int)}, x = [] → ¬ (x ≠ []) := fun q r => r q
  rcases hc with rfl | rfl | rfl
  · have hD := hx.resolve_left (by decide)
    have e1 := h4 (by decide)
    have e2 : srA g a e 1 guard = D := e1.symm
    rw [e2, @if_pos _ (Classical.propDecidable _) hD, @if_neg _ (Classical.propDecidable _) hD]
    rfl
  · have hD := hx.resolve_left (by decide)
    have e2 : srA g a e 2 guard = D := (h4 (by decide)).symm
    have e1 := h2 1 (by decide) (by decide)
    rw [e2, @if_neg _ (Classical.propDecidable _) (n1 e1), @if_pos _ (Classical.propDecidable _) hD, @if_neg _ (Classical.propDecidable _) hD]
    rfl
  · have e3 : srA g a e 3 guard = D := (h4 (by decide)).symm
    have e1 := h2 1 (by decide) (by decide)
    have e2 := h2 2 (by decide) (by decide)
    rw [e3, @if_neg _ (Classical.propDecidable _) (n1 e1), @if_neg _ (Classical.propDecidable _) (n1 e2)]
    by_cases hD : D = []
    · rw [@if_neg _ (Classical.propDecidable _) (n1 hD), @if_pos _ (Classical.propDecidable _) hD, hD]
    · rw [@if_pos _ (Classical.propDecidable _) hD, @if_neg _ (Classical.propDecidable _) hD]
      rfl
theorem rI.len {g : xGr} {a : auT} {e : xEn} {guard c : Int} {D : List (List Int × Int)} (h : rI g a e guard c D) : D.length ≤ 16777216 := by
  by_cases c1 : c = 1
  · rw [h.2.2.1 c1]; exact Nat.zero_le _
  · have := h.1
    rw [h.2.2.2 (by omega)]; exact srA_len
/-- all that is found may be gone -/
theorem rsl_ok {g : xGr} {a : auT} {e : xEn} {guard : Int} (P : List Int × Int → Prop) (h : ∀ c, 1 ≤ c → c ≤ 3 → ∀ q ∈ srA g a e c guard, P q) : ∀ q ∈ (rsl g a e guard).1, P q := by
  unfold rsl
  by_cases c1 : srA g a e 1 guard ≠ []
  · rw [@if_pos _ (Classical.propDecidable _) c1]; exact h 1 (by decide) (by decide)
  · rw [@if_neg _ (Classical.propDecidable _) c1]
    by_cases c2 : srA g a e 2 guard ≠ []
    · rw [@if_pos _ (Classical.propDecidable _) c2]; exact h 2 (by decide) (by decide)
    · rw [@if_neg _ (Classical.propDecidable _) c2]
      by_cases c3 : srA g a e 3 guard ≠ []
      · rw [@if_pos _ (Classical.propDecidable _) c3]; exact h 3 (by decide) (by decide)
      · rw [@if_neg _ (Classical.propDecidable _) c3]; intro q hq; cases hq
/-- but for costs the same -/
def enE (e e' : xEn) : Prop := e.1 = e'.1 ∧ e.2.1 = e'.2.1 ∧ e.2.2.2.2 = e'.2.2.2.2
theorem enE.p {e e' : xEn} (h : enE e e') : ∀ st : List Int, (ndP e st).1 = (ndP e' st).1 ∧ (ndP e st).2.1 = (ndP e' st).2.1 ∧ (ndP e st).2.2.2.1 = (ndP e' st).2.2.2.1 ∧ (ndP e st).2.2.2.2 = (ndP e' st).2.2.2.2 := by
  obtain ⟨h1, h2, h3⟩ := h
  intro st
  induction st with
  | nil => exact ⟨h3, h3, rfl, h2⟩
  | cons c st ih =>
    obtain ⟨i1, i2, i3, i4⟩ := ih
    show (ndS e (ndP e st) c).1 = (ndS e' (ndP e' st) c).1 ∧ (ndS e (ndP e st) c).2.1 = (ndS e' (ndP e' st) c).2.1 ∧ (ndS e (ndP e st) c).2.2.2.1 = (ndS e' (ndP e' st) c).2.2.2.1 ∧ (ndS e (ndP e st) c).2.2.2.2 = (ndS e' (ndP e' st) c).2.2.2.2
    unfold ndS
    by_cases c6 : c < 6
    · rw [if_pos c6, if_pos c6]
      dsimp only
      rw [i1, i2, i3, i4]
      exact ⟨rfl, rfl, rfl, rfl⟩
    · rw [if_neg c6, if_neg c6]
      by_cases c7 : c = 6
      · rw [if_pos c7, if_pos c7]
        dsimp only
        rw [i1, i2, i3, i4]
        exact ⟨rfl, rfl, rfl, rfl⟩
      · rw [if_neg c7, if_neg c7]
        dsimp only
        rw [i1, i2, i3, i4, h2]
        exact ⟨rfl, rfl, rfl, rfl⟩
theorem enE.v {e e' : xEn} (h : enE e e') : ∀ {st : List Int}, ndV e st → ndV e' st := by
  intro st
  induction st with
  | nil => intro _; trivial
  | cons c st ih =>
    intro hv
    refine ⟨ih hv.1, fun q => hv.2.1 ⟨q.1, ?_⟩, hv.2.2⟩
    have := h.p st
    rw [h.1, this.2.1]
    exact q.2
theorem enE.symm {e e' : xEn} (h : enE e e') : enE e' e := ⟨h.1.symm, h.2.1.symm, h.2.2.symm⟩
theorem enE.t {e e' : xEn} (h : enE e e') (st : List Int) : ndT e st = ndT e' st ∧ ndN e st = ndN e' st := by
  obtain ⟨i1, i2, i3, i4⟩ := h.p st
  constructor
  · unfold ndT
    rw [i1, i2, i4, h.2.1]
  · unfold ndN
    rw [i1, i2, h.1]
theorem mRow.of {R : xR} : ∀ {st : List Int}, (∀ i : Nat, i < st.length → R 57 (i : Int) = st.getD (st.length - 1 - i) 0) → mRow R st := by
  intro st
  induction st with
  | nil => intro _; trivial
  | cons c st ih =>
    intro h
    refine ⟨?_, ih (fun i hi => ?_)⟩
    · have := h st.length (by rw [List.length_cons]; omega)
      rw [List.length_cons, show st.length + 1 - 1 - st.length = 0 by omega] at this
      exact this
    · have := h i (by rw [List.length_cons]; omega)
      rw [this, List.length_cons, show st.length + 1 - 1 - i = (st.length - 1 - i) + 1 by omega]
      rfl
theorem stOk.get {st : List Int} (h : stOk st) (i : Nat) (hi : i < st.length) : 0 ≤ st.getD i 0 ∧ st.getD i 0 ≤ 7 := by
  have e : st.getD i 0 = st[i] := by rw [List.getD_eq_getElem?_getD, List.getElem?_eq_getElem hi]; rfl
  rw [e]
  exact h _ (List.getElem_mem hi)
