/-! pure rows: the parser's stack in memory -/
def mStk (R : xR) (S : xSt) : Prop := ∀ i : Nat, i ≤ S.length → R 50 ((S.length : Int) - i) = tp (S.drop i)
theorem mStk.nil {R R1 : xR} (e : R1 = xup R 50 0 0) : mStk R1 [] := by
  intro i hi
  have : i = 0 := by simpa using hi
  subst this
  show R1 50 (((0 : Nat) : Int) - ((0 : Nat) : Int)) = 0
  exact xr_e e (by omega)
theorem mStk.top {R : xR} {S : xSt} (h : mStk R S) : R 50 (S.length : Int) = tp S := by
  have := h 0 (Nat.zero_le _)
  rwa [show ((S.length : Int) - ((0 : Nat) : Int)) = S.length by omega] at this
theorem mStk.dr {R : xR} {S : xSt} (h : mStk R S) {n : Nat} (hn : n ≤ S.length) : mStk R (S.drop n) := by
  intro i hi
  rw [List.length_drop] at hi ⊢
  have := h (n + i) (by omega)
  rw [show (((S.length - n : Nat) : Int) - (i : Int)) = (S.length : Int) - ((n + i : Nat) : Int) by omega, this, List.drop_drop]
theorem mStk.push {R R1 : xR} {S : xSt} {a : auT} {x : Int} {w : Nat} (h : mStk R S) (e : R1 = xup R 50 ((S.length : Int) + 1) (a.2.2 (12 * tp S + x))) : mStk R1 (px a S x w) := by
  intro i hi
  have hl : (px a S x w).length = S.length + 1 := rfl
  rw [hl] at hi ⊢
  cases i with
  | zero =>
    rw [xr_e e (by omega)]
    rfl
  | succ i =>
    rw [xr_d e (by omega)]
    have := h i (by omega)
    rw [show (((S.length + 1 : Nat) : Int) - ((i + 1 : Nat) : Int)) = (S.length : Int) - i by omega, this]
    rfl
theorem mStk.kept {R R1 : xR} {S : xSt} (h : mStk R S) (e : ∀ i, R1 50 i = R 50 i) : mStk R1 S := fun i hi => by rw [e]; exact h i hi
theorem PR.len {g : xGr} {a : auT} {w : Int → Int} {n : Int} {m : Nat} {S : xSt} {k z : Int} (h : PR g a w n m S k z) : S.length ≤ 399 := by
  cases m with
  | zero => exact h.elim
  | succ m => exact h.1
theorem la_congr {w w' : Int → Int} {n k : Int} (h : ∀ k, 0 ≤ k → k < n → w k = w' k) (hk : 0 ≤ k) : la w n k = la w' n k := by
  unfold la
  by_cases c : k < n
  · rw [if_pos c, if_pos c, h k hk c]
  · rw [if_neg c, if_neg c]
theorem PR.congr {g : xGr} {a : auT} {w w' : Int → Int} {n : Int} (h : ∀ k, 0 ≤ k → k < n → w k = w' k) : ∀ {m : Nat} {S : xSt} {k z : Int}, 0 ≤ k → PR g a w n m S k z → PR g a w' n m S k z := by
  intro m
  induction m with
  | zero => intro S k z _ h; exact h.elim
  | succ m ih =>
    rintro S k z hk ⟨h1, h2⟩
    refine ⟨h1, ?_⟩
    rw [← la_congr h hk]
    rcases h2 with ⟨s, h2⟩ | ⟨S1, s, h2⟩ | h2 | h2
    · exact Or.inl ⟨s, ih (by omega) h2⟩
    · exact Or.inr (Or.inl ⟨S1, s, ih hk h2⟩)
    · exact Or.inr (Or.inr (Or.inl h2))
    · exact Or.inr (Or.inr (Or.inr h2))
theorem pR.congr {g : xGr} {a : auT} {w w' : Int → Int} {n z : Int} (h : ∀ k, 0 ≤ k → k < n → w k = w' k) (hp : pR g a w n z) : pR g a w' n z := by
  obtain ⟨m, hm⟩ := hp
  exact ⟨m, PR.congr h (Int.le_refl _) hm⟩
theorem pR.fun {g : xGr} (hw : gW g) {a : auT} (ho : auOk g a) (hc : auC g a) {w : Int → Int} {n z z' : Int} (hwd : ∀ k, 0 ≤ k → k < n → 0 ≤ w k ∧ w k < 6) (h : pR g a w n z) (h' : pR g a w n z') : z = z' := by
  obtain ⟨m, hm⟩ := h
  obtain ⟨m', hm'⟩ := h'
  exact PR.fun (S := []) hw ho hc hwd (Int.le_refl _) trivial hm hm'
theorem pR.rng {g : xGr} {a : auT} {w : Int → Int} {n z : Int} (hn : 0 ≤ n) (hwd : ∀ k, 0 ≤ k → k < n → 0 ≤ w k ∧ w k < 6) (h : pR g a w n z) : z = -1 ∨ (0 ≤ z ∧ z ≤ n) := by
  obtain ⟨m, hm⟩ := h
  exact PR.rng hwd (Int.le_refl _) hn hm
/-- a compiled model, in words -/
theorem mCo.w {R : xR} {a : auT} (h : mCo R a) : gW (gM R) := h.1.gW
theorem mCo.o {R : xR} {a : auT} (h : mCo R a) : auOk (gM R) a := h.2.1.ok h.2.2.1
theorem mCo.c {R : xR} {a : auT} (h : mCo R a) : auC (gM R) a := fun k h1 h2 h3 => h.2.2.1 (Or.inr ⟨k, h1, h2, h3⟩)
/-- what ended answers -/
def mEn (R : xR) (s t z : Int) : Prop := (z = -1 ∧ ∀ r, 0 ≤ r → r ≤ 10 → ¬ hb (R 44 (55 * s + 5 * r + R 36 r)) t) ∨ ((0 ≤ z ∧ z ≤ 10) ∧ hb (R 44 (55 * s + 5 * z + R 36 z)) t)
theorem mEn.it {R : xR} {a : auT} {s t r : Int} (h : mCo R a) (hs : 0 ≤ s ∧ s < a.1) (ht : 0 ≤ t ∧ t < 7) (hr : 0 ≤ r ∧ r ≤ 10) : hb (R 44 (55 * s + 5 * r + R 36 r)) t ↔ a.2.1 s r ((gM R).2.2.1 r) t := by
  rw [← h.2.2.2.2.1 s hs.1 hs.2]
  have hl := h.1.2.2.1 r hr.1 hr.2
  exact ⟨fun q => ⟨hr, hl, ht, q⟩, fun q => q.2.2.2⟩
