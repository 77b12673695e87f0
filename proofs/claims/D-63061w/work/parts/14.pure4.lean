/-! pure rows: the model's prepare -/
theorem bgs_raw {R : xR} {r len : Int} (hr : ∀ k, 0 ≤ k → k < len → 0 ≤ R 37 (4 * r + k)) : ∀ (f : Nat) (q : Int), 0 ≤ q → q + f = len → ∀ t', 0 ≤ t' →
    (hb (bgs R 0 f (4 * r + q)) t' ↔ ∃ j, q ≤ j ∧ j < len ∧ (∀ k, q ≤ k → k < j → mE R (4 * r + k)) ∧ (R 37 (4 * r + j) < 6 ∧ t' = R 37 (4 * r + j) ∨ 6 ≤ R 37 (4 * r + j) ∧ hb (R 41 (R 37 (4 * r + j) - 6)) t')) := by
  intro f
  induction f with
  | zero =>
    intro q hq hf t' b1
    unfold bgs
    exact ⟨fun h => absurd h (hb_0 _), fun ⟨j, h1, h2, _⟩ => by omega⟩
  | succ f ih =>
    intro q hq hf t' b1
    have hsy := hr q hq (by omega)
    unfold bgs
    by_cases c1 : R 37 (4 * r + q) < 6
    · rw [if_pos c1, hb_p2 hsy b1]
      constructor
      · intro h
        exact ⟨q, Int.le_refl _, by omega, fun k d1 d2 => by omega, Or.inl ⟨c1, h⟩⟩
      · rintro ⟨j, d1, d2, d3, d4⟩
        by_cases e : j = q
        · subst e
          rcases d4 with ⟨-, d4⟩ | ⟨d4, -⟩
          · exact d4
          · omega
        · have := (d3 q (Int.le_refl _) (by omega)).1
          omega
    · rw [if_neg c1]
      by_cases c2 : R 40 (R 37 (4 * r + q) - 6) = 0
      · rw [if_pos c2]
        constructor
        · intro h
          exact ⟨q, Int.le_refl _, by omega, fun k d1 d2 => by omega, Or.inr ⟨by omega, h⟩⟩
        · rintro ⟨j, d1, d2, d3, d4⟩
          by_cases e : j = q
          · subst e
            rcases d4 with ⟨d4, -⟩ | ⟨-, d4⟩
            · omega
            · exact d4
          · exact absurd c2 (d3 q (Int.le_refl _) (by omega)).2
      · rw [if_neg c2, hb_ior, show 4 * r + q + 1 = 4 * r + (q + 1) by omega, ih (q + 1) (by omega) (by omega) t' b1]
        constructor
        · rintro (h | ⟨j, d1, d2, d3, d4⟩)
          · exact ⟨q, Int.le_refl _, by omega, fun k d1 d2 => by omega, Or.inr ⟨by omega, h⟩⟩
          · refine ⟨j, by omega, d2, fun k e1 e2 => ?_, d4⟩
            by_cases e : k = q
            · rw [e]; exact ⟨by omega, c2⟩
            · exact d3 k (by omega) e2
        · rintro ⟨j, d1, d2, d3, d4⟩
          by_cases e : j = q
          · subst e
            rcases d4 with ⟨d4, -⟩ | ⟨-, d4⟩
            · exact absurd d4 c1
            · exact Or.inl d4
          · exact Or.inr ⟨j, by omega, d2, fun k e1 e2 => d3 k (by omega) e2, d4⟩
/-- rules in range (the eleventh apart) -/
def mG0 (R : xR) : Prop := (0 ≤ R 30 3 ∧ R 30 3 ≤ 10) ∧ (∀ r, 0 ≤ r → r < R 30 3 → (0 ≤ R 35 r ∧ R 35 r ≤ 5) ∧ (0 ≤ R 36 r ∧ R 36 r ≤ 4)) ∧ (∀ r k, 0 ≤ r → r < R 30 3 → 0 ≤ k → k < R 36 r → 0 ≤ R 37 (4 * r + k) ∧ R 37 (4 * r + k) ≤ 11)
/-- nothing but regions 38 .. 41 has moved -/
def mK (R R1 : xR) : Prop := ∀ a b, (a < 38 ∨ 41 < a) → R1 a b = R a b
theorem mK.gM {R R1 : xR} (h : mK R R1) : gM R1 = gM R := by
  unfold Jvm.Pilot.CRepairDeskLaw_law_r8657_4e7fad.gM
  have e1 : R1 30 3 = R 30 3 := h 30 3 (by decide)
  have e2 : R1 35 = R 35 := funext (fun b => h 35 b (by decide))
  have e3 : R1 36 = R 36 := funext (fun b => h 36 b (by decide))
  have e4 : R1 37 = R 37 := funext (fun b => h 37 b (by decide))
  rw [e1, e2, e3, e4]
theorem mK.up {R R1 R2 : xR} {k i z : Int} (h : mK R R1) (hk : 38 ≤ k ∧ k ≤ 41) (e : R2 = xup R1 k i z) : mK R R2 := fun a b hab => (xr_o e (by omega)).trans (h a b hab)
/-- a right side's place is a letter or a name that comes -/
def mC (R : xR) (f : Int → Int) (j : Int) : Prop := R 37 j < 6 ∨ f (R 37 j - 6) ≠ 0
/-- what has been found of the names that come: not too much -/
def mA1 (R R1 : xR) : Prop := mK R R1 ∧ ∀ x, 0 ≤ x → x ≤ 5 → (R1 39 x = 0 ∨ R1 39 x = 1) ∧ (R1 39 x ≠ 0 → gCm (gM R) x)
/-- a pass: from R1, now R2, before rule r -/
def mP1 (R R1 R2 : xR) (r more : Int) : Prop := mA1 R R2 ∧ (∀ x, 0 ≤ x → x ≤ 5 → R1 39 x ≤ R2 39 x) ∧ (∀ a b, (a = 40 ∨ a = 41) → R2 a b = R1 a b) ∧
  ((more = 0 ∧ (∀ x, 0 ≤ x → x ≤ 5 → R2 39 x = R1 39 x) ∧ ∀ r', 0 ≤ r' → r' < r → R2 38 r' = zc (∀ j, 4 * r' ≤ j → j < 4 * r' + R 36 r' → mC R (R1 39) j) ∧ (R2 38 r' ≠ 0 → R1 39 (R 35 r') ≠ 0)) ∨ (more = 1 ∧ ∃ x, 0 ≤ x ∧ x ≤ 5 ∧ R1 39 x < R2 39 x))
theorem mP1.zero {R R1 : xR} (h : mA1 R R1) : mP1 R R1 R1 0 0 := ⟨h, fun _ _ _ => Int.le_refl _, fun _ _ _ => rfl, Or.inl ⟨rfl, fun _ _ _ => rfl, fun r' a b => by omega⟩⟩
/-- one rule: used[r] is told, comes[left] grows -/
theorem mP1.step {R R1 R2 R3 R4 : xR} {r more more' u : Int} (hg : mG0 R) (h : mP1 R R1 R2 r more) (hr : 0 ≤ r ∧ r < R 30 3)
    (h3 : mK R R3) (h38 : ∀ b, b ≠ r → R3 38 b = R2 38 b) (h39 : ∀ b, R3 39 b = R2 39 b) (h4041 : ∀ a b, (a = 40 ∨ a = 41) → R3 a b = R2 a b)
    (hu : R3 38 r = zc (∀ j, 4 * r ≤ j → j < 4 * r + R 36 r → mC R (R2 39) j)) (e4 : R4 = xup R3 39 (R 35 r) u) (hu' : (u = 0 ∧ R3 39 (R 35 r) = 0 ∧ R3 38 r = 0) ∨ (u = 1 ∧ (R3 39 (R 35 r) ≠ 0 ∨ R3 38 r ≠ 0)))
    (hm : (more' = 0 ∧ more = 0 ∧ (R3 38 r = 0 ∨ R3 39 (R 35 r) ≠ 0)) ∨ (more' = 1 ∧ (more ≠ 0 ∨ (R3 38 r ≠ 0 ∧ R3 39 (R 35 r) = 0)))) : mP1 R R1 R4 (r + 1) more' := by
  obtain ⟨⟨a1, a2⟩, a3, a4, a5⟩ := h
  have hl := (hg.2.1 r hr.1 hr.2).1
  have hlx := a2 (R 35 r) hl.1 hl.2
  have h39l := h39 (R 35 r)
  have e38 : ∀ b, R4 38 b = R3 38 b := fun b => xr_o e4 (by decide)
  have hge : ∀ x, 0 ≤ x → x ≤ 5 → R2 39 x ≤ R4 39 x := by
    intro x b c
    by_cases e : x = R 35 r
    · subst e
      rw [xr_s e4]
      clear a5; omega
    · rw [xr_d e4 e, h39]; exact Int.le_refl _
  refine ⟨⟨h3.up (by decide) e4, fun x b c => ?_⟩, fun x b c => Int.le_trans (a3 x b c) (hge x b c), fun a b hab => (xr_o e4 (by omega)).trans ((h4041 a b hab).trans (a4 a b hab)), ?_⟩
  · by_cases e : x = R 35 r
    · subst e
      rw [xr_s e4]
      refine ⟨by clear a5; omega, fun hne => ?_⟩
      rcases hu' with ⟨d1, -⟩ | ⟨-, d2 | d2⟩
      · omega
      · exact (a2 _ b c).2 (by rw [← h39]; exact d2)
      · rw [hu] at d2
        have d3 := zc_ne.mp d2
        refine gCm.mk (g := gM R) (r := r) ⟨hr.1, hr.2, fun k f1 f2 => ?_⟩
        have f2' : k < R 36 r := f2
        have hsy := hg.2.2 r k hr.1 hr.2 f1 f2'
        rcases d3 (4 * r + k) (by omega) (by omega) with q | q
        · exact Or.inl q
        · by_cases c6 : R 37 (4 * r + k) < 6
          · exact Or.inl c6
          · exact Or.inr ((a2 (R 37 (4 * r + k) - 6) (by omega) (by omega)).2 q)
    · rw [xr_d e4 e, h39]; exact a2 x b c
  · rcases hm with ⟨m1, m2, m3⟩ | ⟨m1, m2⟩
    · rcases a5 with ⟨-, a6, a7⟩ | ⟨a6, -⟩
      · have same : ∀ x, 0 ≤ x → x ≤ 5 → R4 39 x = R1 39 x := by
          intro x b c
          rw [← a6 x b c]
          by_cases e : x = R 35 r
          · subst e
            rw [xr_s e4]
            omega
          · rw [xr_d e4 e, h39]
        refine Or.inl ⟨m1, same, fun r' b c => ?_⟩
        by_cases e : r' = r
        · subst e
          rw [e38, hu]
          have hc : (∀ j, 4 * r' ≤ j → j < 4 * r' + R 36 r' → mC R (R2 39) j) ↔ (∀ j, 4 * r' ≤ j → j < 4 * r' + R 36 r' → mC R (R1 39) j) := by
            have hj : ∀ j, 4 * r' ≤ j → j < 4 * r' + R 36 r' → (mC R (R2 39) j ↔ mC R (R1 39) j) := by
              intro j f1 f2
              have hsy := hg.2.2 r' (j - 4 * r') hr.1 hr.2 (by omega) (by omega)
              rw [show 4 * r' + (j - 4 * r') = j by omega] at hsy
              unfold mC
              by_cases c6 : R 37 j < 6
              · exact ⟨fun _ => Or.inl c6, fun _ => Or.inl c6⟩
              · rw [a6 (R 37 j - 6) (by omega) (by omega)]
            exact ⟨fun q j f1 f2 => (hj j f1 f2).mp (q j f1 f2), fun q j f1 f2 => (hj j f1 f2).mpr (q j f1 f2)⟩
          refine ⟨zc_iff hc, fun q => ?_⟩
          rw [← hu] at q
          have h6 := a6 (R 35 r') hl.1 hl.2
          omega
        · have := a7 r' b (by omega)
          rw [e38, h38 r' e]
          exact this
      · omega
    · refine Or.inr ⟨m1, ?_⟩
      rcases a5 with ⟨a6, a7, -⟩ | ⟨-, x, b, c, d⟩
      · refine ⟨R 35 r, hl.1, hl.2, ?_⟩
        have h6 := a7 (R 35 r) hl.1 hl.2
        rw [xr_s e4]
        omega
      · exact ⟨x, b, c, by have := hge x b c; omega⟩
theorem mP1.m01 {R R1 R2 : xR} {r more : Int} (h : mP1 R R1 R2 r more) : more = 0 ∨ more = 1 := h.2.2.2.imp (fun q => q.1) (fun q => q.1)
/-- behind the last pass: comes and used are as they should be -/
theorem mP1.done {R R1 R2 : xR} (hg : mG0 R) (h : mP1 R R1 R2 (R 30 3) 0) : (∀ x, 0 ≤ x → x ≤ 5 → R2 39 x = zc (gCm (gM R) x)) ∧ ∀ r, 0 ≤ r → r < R 30 3 → R2 38 r = zc (gUs (gM R) r) := by
  obtain ⟨⟨a1, a2⟩, a3, -, ⟨-, a6, a7⟩ | ⟨a6, -⟩⟩ := h
  · have hcm : ∀ x, gCm (gM R) x → 0 ≤ x ∧ x ≤ 5 ∧ R1 39 x ≠ 0 := by
      intro x hx
      refine hx (fun x => 0 ≤ x ∧ x ≤ 5 ∧ R1 39 x ≠ 0) (fun r b c d => ?_)
      have c' : r < R 30 3 := c
      have hl := (hg.2.1 r b c').1
      refine ⟨hl.1, hl.2, ?_⟩
      have h7 := a7 r b c'
      refine h7.2 (h7.1 ▸ zc_ne.mpr (fun j f1 f2 => ?_))
      have d2 := d (j - 4 * r) (by omega) (by show j - 4 * r < R 36 r; omega)
      have e : (gM R).2.2.2 r (j - 4 * r) = R 37 j := by show R 37 (4 * r + (j - 4 * r)) = R 37 j; rw [show 4 * r + (j - 4 * r) = j by omega]
      rw [e] at d2
      exact d2.imp id (fun q => q.2.2)
    have hx : ∀ x, 0 ≤ x → x ≤ 5 → (R1 39 x ≠ 0 ↔ gCm (gM R) x) := fun x b c => ⟨fun q => (a2 x b c).2 (by rw [a6 x b c]; exact q), fun q => (hcm x q).2.2⟩
    refine ⟨fun x b c => ?_, fun r b c => ?_⟩
    · have h2 := (a2 x b c).1
      rw [a6 x b c] at h2 ⊢
      rcases h2 with h2 | h2
      · rw [h2]; exact (zc_f (fun q => (hx x b c).mpr q h2)).symm
      · rw [h2]; exact (zc_t ((hx x b c).mp (by omega))).symm
    · rw [(a7 r b c).1]
      refine zc_iff ⟨fun q => ⟨b, c, fun k f1 f2 => ?_⟩, fun q j f1 f2 => ?_⟩
      · have f2' : k < R 36 r := f2
        have hsy := hg.2.2 r k b c f1 f2'
        rcases q (4 * r + k) (by omega) (by omega) with q | q
        · exact Or.inl q
        · by_cases c6 : R 37 (4 * r + k) < 6
          · exact Or.inl c6
          · exact Or.inr ((hx (R 37 (4 * r + k) - 6) (by omega) (by omega)).mp q)
      · have d2 := q.2.2 (j - 4 * r) (by omega) (by show j - 4 * r < R 36 r; omega)
        have e : (gM R).2.2.2 r (j - 4 * r) = R 37 j := by show R 37 (4 * r + (j - 4 * r)) = R 37 j; rw [show 4 * r + (j - 4 * r) = j by omega]
        rw [e] at d2
        exact d2.imp id (fun q => (hcm _ q).2.2)
  · omega
def mW1 (R : xR) : Nat := (sumF (fun i => 1 - R 39 i) 6).toNat
theorem mP1.meas {R R1 R2 : xR} {r more : Int} (h1 : mA1 R R1) (h : mP1 R R1 R2 r more) : 2 * mW1 R2 + more.toNat < 2 * mW1 R1 + 1 := by
  have hb2 : ∀ i : Int, 0 ≤ i → i < ((6 : Nat) : Int) → 0 ≤ 1 - R2 39 i := fun i a b => by have := (h.1.2 i a (by omega)).1; omega
  have h0 := sumF_0 6 hb2
  obtain ⟨-, a3, -, ⟨e, a6, -⟩ | ⟨e, x, b, c, d⟩⟩ := h
  · have hle : sumF (fun i => 1 - R2 39 i) 6 ≤ sumF (fun i => 1 - R1 39 i) 6 := sumF_le 6 (fun i a b => by have := a3 i a (by omega); omega)
    unfold mW1
    rw [e]
    show 2 * (sumF (fun i => 1 - R2 39 i) 6).toNat + 0 < _
    omega
  · have hlt : sumF (fun i => 1 - R2 39 i) 6 < sumF (fun i => 1 - R1 39 i) 6 := sumF_lt 6 (fun i a b => by have := a3 i a (by omega); omega) ⟨x, b, by omega, by omega⟩
    unfold mW1
    rw [e]
    show 2 * (sumF (fun i => 1 - R2 39 i) 6).toNat + 1 < _
    omega
-- ===== the second half: empty, first =====
def mA2 (R R1 : xR) : Prop := mK R R1 ∧ (∀ r, 0 ≤ r → r < R 30 3 → R1 38 r = zc (gUs (gM R) r)) ∧ (∀ x, 0 ≤ x → x ≤ 5 → R1 39 x = zc (gCm (gM R) x)) ∧ ∀ x, 0 ≤ x → x ≤ 5 → ((R1 40 x = 0 ∨ R1 40 x = 1) ∧ (R1 40 x ≠ 0 → gEm (gM R) x)) ∧ s7 (R1 41 x) ∧ ∀ t, 0 ≤ t → hb (R1 41 x) t → gFi (gM R) x t
/-- rule r adds nothing -/
def mN2 (R R1 : xR) (r : Int) : Prop := (∀ t, 0 ≤ t → t < 7 → hb (bgs R1 0 (4 * r + R1 36 r - (4 * r + 0)).toNat (4 * r + 0)) t → hb (R1 41 (R 35 r)) t) ∧ ((∀ j, 4 * r + 0 ≤ j → j < 4 * r + R1 36 r → mE R1 j) → R1 40 (R 35 r) ≠ 0)
def mP2 (R R1 R2 : xR) (r more : Int) : Prop := mA2 R R2 ∧ (∀ x, 0 ≤ x → x ≤ 5 → R1 40 x ≤ R2 40 x ∧ R1 41 x ≤ R2 41 x) ∧
  ((more = 0 ∧ R2 = R1 ∧ ∀ r', 0 ≤ r' → r' < r → R1 38 r' ≠ 0 → mN2 R R1 r') ∨ (more = 1 ∧ ∃ x, 0 ≤ x ∧ x ≤ 5 ∧ (R1 40 x < R2 40 x ∨ R1 41 x < R2 41 x)))
theorem mP2.zero {R R1 : xR} (h : mA2 R R1) : mP2 R R1 R1 0 0 := ⟨h, fun _ _ _ => ⟨Int.le_refl _, Int.le_refl _⟩, Or.inl ⟨rfl, rfl, fun r' a b => by omega⟩⟩
theorem mA2.ok {R R1 : xR} (hg : mG0 R) (h : mA2 R R1) {r : Int} (h0 : 0 ≤ r) (h1 : r < R 30 3) : mOk R1 r := by
  obtain ⟨a1, a2, a3, a4⟩ := h
  have e6 : R1 36 r = R 36 r := a1 36 r (by decide)
  refine ⟨⟨h0, by have := hg.1; omega⟩, by rw [e6]; exact (hg.2.1 r h0 h1).2, fun k b c => ?_, fun x b c => ⟨(a4 x b c).1.1, (a4 x b c).2.1⟩⟩
  have := hg.2.2 r (k - 4 * r) h0 h1 (by omega) (by omega)
  rw [show 4 * r + (k - 4 * r) = k by omega] at this
  rw [a1 37 k (by decide)]
  exact this
/-- what a used rule's begins may add is right -/
theorem mA2.sound {R R1 : xR} (hg : mG0 R) (h : mA2 R R1) {r : Int} (h0 : 0 ≤ r) (h1 : r < R 30 3) (hu : R1 38 r ≠ 0) :
    (∀ t, 0 ≤ t → hb (bgs R1 0 (4 * r + R1 36 r - (4 * r + 0)).toNat (4 * r + 0)) t → gFi (gM R) (R 35 r) t) ∧ ((∀ j, 4 * r + 0 ≤ j → j < 4 * r + R1 36 r → mE R1 j) → gEm (gM R) (R 35 r)) := by
  have hus : gUs (gM R) r := by rw [h.2.1 r h0 h1] at hu; exact zc_ne.mp hu
  have hok := h.ok hg h0 h1
  obtain ⟨a1, a2, a3, a4⟩ := h
  have e6 : R1 36 r = R 36 r := a1 36 r (by decide)
  have hln := hok.2.1
  have em : ∀ k, 0 ≤ k → k < R 36 r → mE R1 (4 * r + k) → 6 ≤ (gM R).2.2.2 r k ∧ gEm (gM R) ((gM R).2.2.2 r k - 6) := by
    intro k b c d
    have hsy := hg.2.2 r k h0 h1 b c
    unfold mE at d
    rw [a1 37 _ (by decide)] at d
    exact ⟨d.1, (a4 (R 37 (4 * r + k) - 6) (by omega) (by omega)).1.2 d.2⟩
  constructor
  · intro t b c
    obtain ⟨j, d1, d2, d3, d4⟩ := (bgs_raw (R := R1) (r := r) (len := R1 36 r) (fun k f1 f2 => (hok.2.2.1 (4 * r + k) (by omega) (by omega)).1) _ 0 (Int.le_refl _) (by omega) t b).mp c
    rw [a1 37 _ (by decide)] at d4
    refine gFi.mk (g := gM R) (r := r) (j := j) hus d1 (by show j < R 36 r; omega) (fun k f1 f2 => em k f1 (by omega) (d3 k f1 f2)) ?_
    have hsy := hg.2.2 r j h0 h1 d1 (by omega)
    rcases d4 with d4 | ⟨d4, d5⟩
    · exact Or.inl d4
    · exact Or.inr ⟨d4, (a4 (R 37 (4 * r + j) - 6) (by omega) (by omega)).2.2 t b d5⟩
  · intro q
    exact gEm.mk (g := gM R) (r := r) hus (fun k f1 f2 => em k f1 f2 (q (4 * r + k) (by omega) (by have : k < R 36 r := f2; omega)))
theorem mP2.step {R R1 R2 R3 R4 : xR} {r more more' set none_ u : Int} (hg : mG0 R) (h : mP2 R R1 R2 r more) (hr : 0 ≤ r ∧ r < R 30 3)
    (hset : (R2 38 r = 0 ∧ set = 0) ∨ (R2 38 r ≠ 0 ∧ set = bgs R2 0 (4 * r + R2 36 r - (4 * r + 0)).toNat (4 * r + 0)))
    (hnone : (none_ = 0 ∧ (R2 38 r = 0 ∨ ¬ ∀ j, 4 * r + 0 ≤ j → j < 4 * r + R2 36 r → mE R2 j)) ∨ (none_ = 1 ∧ R2 38 r ≠ 0 ∧ ∀ j, 4 * r + 0 ≤ j → j < 4 * r + R2 36 r → mE R2 j))
    (e3 : R3 = xup R2 41 (R 35 r) (ior (R2 41 (R 35 r)) set)) (e4 : R4 = xup R3 40 (R 35 r) u) (hu : (u = 0 ∧ R2 40 (R 35 r) = 0 ∧ none_ = 0) ∨ (u = 1 ∧ (R2 40 (R 35 r) ≠ 0 ∨ none_ ≠ 0)))
    (hm : (more' = 0 ∧ more = 0 ∧ ior set (R2 41 (R 35 r)) = R2 41 (R 35 r) ∧ (none_ = 0 ∨ R2 40 (R 35 r) ≠ 0)) ∨ (more' = 1 ∧ (more ≠ 0 ∨ ior set (R2 41 (R 35 r)) ≠ R2 41 (R 35 r) ∨ (none_ ≠ 0 ∧ R2 40 (R 35 r) = 0)))) : mP2 R R1 R4 (r + 1) more' := by
  obtain ⟨a0, a5, a6⟩ := h
  have hl := (hg.2.1 r hr.1 hr.2).1
  have hok := a0.ok hg hr.1 hr.2
  have hset7 : s7 set := by
    rcases hset with ⟨-, q⟩ | ⟨-, q⟩
    · rw [q]; exact ⟨by omega, by omega⟩
    · rw [q]; exact bgs_s7 ⟨by omega, by omega⟩ _ _ (fun j d1 d2 => hok.2.2.1 j (by omega) (by omega)) (fun x d1 d2 => (hok.2.2.2 x d1 d2).2)
  have hs := a0.sound hg hr.1 hr.2
  obtain ⟨a1, a2, a3, a4⟩ := a0
  have h4l := a4 (R 35 r) hl.1 hl.2
  have comm : ior set (R2 41 (R 35 r)) = ior (R2 41 (R 35 r)) set := by unfold ior; rw [Nat.or_comm]
  have e40 : ∀ x, R3 40 x = R2 40 x := fun x => xr_o e3 (by decide)
  have e41 : ∀ x, R4 41 x = R3 41 x := fun x => xr_o e4 (by decide)
  have hge : ∀ x, 0 ≤ x → x ≤ 5 → R2 40 x ≤ R4 40 x ∧ R2 41 x ≤ R4 41 x := by
    intro x b c
    by_cases e : x = R 35 r
    · subst e
      rw [xr_s e4, e41, xr_s e3]
      exact ⟨by clear a6; omega, ior_ge h4l.2.1.1⟩
    · rw [xr_d e4 e, e40, e41, xr_d e3 e]
      exact ⟨Int.le_refl _, Int.le_refl _⟩
  refine ⟨⟨(a1.up (by decide) e3).up (by decide) e4, fun r' b c => ?_, fun x b c => ?_, fun x b c => ?_⟩, fun x b c => ⟨Int.le_trans (a5 x b c).1 (hge x b c).1, Int.le_trans (a5 x b c).2 (hge x b c).2⟩, ?_⟩
  · rw [xr_o e4 (by decide), xr_o e3 (by decide)]; exact a2 r' b c
  · rw [xr_o e4 (by decide), xr_o e3 (by decide)]; exact a3 x b c
  · by_cases e : x = R 35 r
    · subst e
      rw [xr_s e4, e41, xr_s e3]
      refine ⟨⟨by clear a6; omega, fun q => ?_⟩, ior_s7 h4l.2.1 hset7, fun t d1 d2 => ?_⟩
      · rcases hu with ⟨q1, -⟩ | ⟨-, q1 | q1⟩
        · omega
        · exact h4l.1.2 q1
        · rcases hnone with ⟨q2, -⟩ | ⟨-, q2, q3⟩
          · omega
          · exact (hs q2).2 q3
      · rw [hb_ior] at d2
        rcases d2 with d2 | d2
        · exact h4l.2.2 t d1 d2
        · rcases hset with ⟨-, q⟩ | ⟨q1, q⟩
          · rw [q] at d2; exact absurd d2 (hb_0 t)
          · rw [q] at d2; exact (hs q1).1 t d1 d2
    · rw [xr_d e4 e, e40, e41, xr_d e3 e]
      exact a4 x b c
  · rcases hm with ⟨m1, m2, m3, m4⟩ | ⟨m1, m2⟩
    · rcases a6 with ⟨-, a7, a8⟩ | ⟨a7, -⟩
      · rw [comm] at m3
        have e32 : R3 = R2 := by
          rw [e3, m3]
          funext a b
          unfold xup
          by_cases c : a = 41 ∧ b = R 35 r
          · rw [if_pos c, c.1, c.2]
          · rw [if_neg c]
        have hu2 : u = R2 40 (R 35 r) := by have := h4l.1.1; omega
        have e42 : R4 = R2 := by
          rw [e4, e32, hu2]
          funext a b
          unfold xup
          by_cases c : a = 40 ∧ b = R 35 r
          · rw [if_pos c, c.1, c.2]
          · rw [if_neg c]
        refine Or.inl ⟨m1, e42.trans a7, fun r' b c d => ?_⟩
        by_cases e : r' = r
        · subst e
          rw [← a7] at d ⊢
          constructor
          · intro t f1 f2 f3
            rcases hset with ⟨q, -⟩ | ⟨-, q⟩
            · exact absurd q d
            · rw [← q] at f3
              exact (ior_eq h4l.2.1 hset7).mp m3 t f1 f2 f3
          · intro q
            rcases hnone with ⟨q1, q2 | q2⟩ | ⟨q1, -⟩
            · exact absurd q2 d
            · exact absurd q q2
            · omega
        · exact a8 r' b (by omega) d
      · omega
    · refine Or.inr ⟨m1, ?_⟩
      rcases a6 with ⟨a7, a8, -⟩ | ⟨-, x, b, c, d⟩
      · refine ⟨R 35 r, hl.1, hl.2, ?_⟩
        rw [← a8]
        rw [xr_s e4, e41, xr_s e3]
        rcases m2 with m2 | m2 | m2
        · omega
        · right
          rw [comm] at m2
          have := ior_ge (a := R2 41 (R 35 r)) (b := set) h4l.2.1.1
          omega
        · left
          omega
      · exact ⟨x, b, c, by have := hge x b c; omega⟩
theorem mP2.m01 {R R1 R2 : xR} {r more : Int} (h : mP2 R R1 R2 r more) : more = 0 ∨ more = 1 := h.2.2.imp (fun q => q.1) (fun q => q.1)
def mW2 (R : xR) : Nat := (sumF (fun i => (1 - R 40 i) + (127 - R 41 i)) 6).toNat
theorem mP2.meas {R R1 R2 : xR} {r more : Int} (h : mP2 R R1 R2 r more) : 2 * mW2 R2 + more.toNat < 2 * mW2 R1 + 1 := by
  have h0 := sumF_0 (f := fun i => (1 - R2 40 i) + (127 - R2 41 i)) 6 (fun i a b => by have h1 := h.1.2.2.2 i a (by omega); have := h1.1.1; have := h1.2.1.2; omega)
  obtain ⟨-, a5, ⟨e, a6, -⟩ | ⟨e, x, b, c, d⟩⟩ := h
  · rw [e, a6]
    show 2 * mW2 R1 + 0 < _
    omega
  · have hlt : sumF (fun i => (1 - R2 40 i) + (127 - R2 41 i)) 6 < sumF (fun i => (1 - R1 40 i) + (127 - R1 41 i)) 6 := sumF_lt 6 (fun i a b => by have := a5 i a (by omega); omega) ⟨x, b, by omega, by have := a5 x b c; omega⟩
    unfold mW2
    rw [e]
    show 2 * (sumF (fun i => (1 - R2 40 i) + (127 - R2 41 i)) 6).toNat + 1 < _
    omega
theorem mP2.done {R R1 R2 : xR} (hg : mG0 R) (h : mP2 R R1 R2 (R 30 3) 0) : mPr R2 ∧ mK R R2 ∧ ∀ x, 0 ≤ x → x ≤ 5 → R2 39 x = zc (gCm (gM R) x) := by
  obtain ⟨a0, -, ⟨-, a6, a7⟩ | ⟨a6, -⟩⟩ := h
  · rw [a6] at a0
    have a0' := a0
    obtain ⟨a1, a2, a3, a4⟩ := a0'
    have hgm : gM R1 = gM R := a1.gM
    have hus : ∀ r, gUs (gM R) r → R1 38 r ≠ 0 := fun r q => by rw [a2 r q.1 q.2.1]; exact zc_ne.mpr q
    have hem : ∀ x, gEm (gM R) x → 0 ≤ x ∧ x ≤ 5 ∧ R1 40 x ≠ 0 := by
      intro x hx
      refine hx (fun x => 0 ≤ x ∧ x ≤ 5 ∧ R1 40 x ≠ 0) (fun r b c => ?_)
      have hl := (hg.2.1 r b.1 b.2.1).1
      refine ⟨hl.1, hl.2, (a7 r b.1 b.2.1 (hus r b)).2 (fun j d1 d2 => ?_)⟩
      have e6 : R1 36 r = R 36 r := a1 36 r (by decide)
      have c2 := c (j - 4 * r) (by omega) (by show j - 4 * r < R 36 r; omega)
      have e : (gM R).2.2.2 r (j - 4 * r) = R 37 j := by show R 37 (4 * r + (j - 4 * r)) = R 37 j; rw [show 4 * r + (j - 4 * r) = j by omega]
      rw [e] at c2
      unfold mE
      rw [a1 37 j (by decide)]
      exact ⟨c2.1, c2.2.2.2⟩
    have hfi : ∀ x t, gFi (gM R) x t → 0 ≤ t ∧ t < 7 ∧ hb (R1 41 x) t := by
      intro x t hx
      refine hx (fun x t => 0 ≤ t ∧ t < 7 ∧ hb (R1 41 x) t) (fun r j t b c d f i => ?_)
      have d' : j < R 36 r := d
      have hsy := hg.2.2 r j b.1 b.2.1 c d'
      have ht : 0 ≤ t ∧ t < 7 := by
        rcases i with ⟨i1, i2⟩ | ⟨-, i⟩
        · have : t = R 37 (4 * r + j) := i2
          omega
        · exact ⟨i.1, i.2.1⟩
      refine ⟨ht.1, ht.2, (a7 r b.1 b.2.1 (hus r b)).1 t ht.1 ht.2 ?_⟩
      have hok := a0.ok hg b.1 b.2.1
      have e6 : R1 36 r = R 36 r := a1 36 r (by decide)
      have hln := hok.2.1
      refine (bgs_raw (R := R1) (r := r) (len := R1 36 r) (fun k f1 f2 => (hok.2.2.1 (4 * r + k) (by omega) (by omega)).1) _ 0 (Int.le_refl _) (by omega) t ht.1).mpr ⟨j, c, by omega, fun k f1 f2 => ?_, ?_⟩
      · have f3 := f k f1 f2
        unfold mE
        rw [a1 37 _ (by decide)]
        exact ⟨f3.1, (hem _ f3.2).2.2⟩
      · rw [a1 37 _ (by decide)]
        rcases i with i | ⟨i1, i2⟩
        · exact Or.inl i
        · exact Or.inr ⟨i1, i2.2.2⟩
    rw [a6]
    refine ⟨⟨fun r b c => ?_, fun x b c => ?_, fun x b c => (a4 x b c).2.1, fun x t b c d f => ?_⟩, a1, a3⟩
    · rw [hgm]
      rw [a1 30 3 (by decide)] at c
      exact a2 r b c
    · rw [hgm]
      rcases (a4 x b c).1.1 with q | q
      · rw [q]; exact (zc_f (fun w => (hem x w).2.2 q)).symm
      · rw [q]; exact (zc_t ((a4 x b c).1.2 (by omega))).symm
    · rw [hgm]
      exact ⟨(a4 x b c).2.2 t d, fun q => (hfi x t q).2.2⟩
  · omega
