/-! pure rows: spread and close of the model's states; items, closure, where a symbol leads -/
/-- rule r of name x is used -/
def spq (R : xR) (x r : Int) : Prop := R 38 r ≠ 0 ∧ R 35 r = x
/-- spread over the first n rules: R1 out of R, z says whether something moved -/
def SP (R R1 : xR) (s x set n z : Int) : Prop := (∀ a b, a ≠ 44 → R1 a b = R a b) ∧ (∀ i, (∀ r, 0 ≤ r → r < n → spq R x r → i ≠ 55 * s + 5 * r) → R1 44 i = R 44 i) ∧ (∀ r, 0 ≤ r → r < n → spq R x r → R1 44 (55 * s + 5 * r) = ior (R 44 (55 * s + 5 * r)) set) ∧
  ((z = 0 ∧ ∀ i, R1 44 i = R 44 i) ∨ (z = 1 ∧ ∃ r, 0 ≤ r ∧ r < n ∧ spq R x r ∧ R1 44 (55 * s + 5 * r) ≠ R 44 (55 * s + 5 * r)))
theorem SP.zero {R : xR} {s x set : Int} : SP R R s x set 0 0 := ⟨fun _ _ _ => rfl, fun _ _ => rfl, fun r h1 h2 => by omega, Or.inl ⟨rfl, fun _ => rfl⟩⟩
theorem SP.no {R R1 : xR} {s x set r z : Int} (h : SP R R1 s x set r z) (hn : ¬ spq R x r) : SP R R1 s x set (r + 1) z := by
  obtain ⟨h1, h2, h3, h4⟩ := h
  refine ⟨h1, fun i hi => h2 i (fun r' a b c => hi r' a (by omega) c), fun r' a b c => ?_, ?_⟩
  · by_cases e : r' = r
    · rw [e] at c; exact absurd c hn
    · exact h3 r' a (by omega) c
  · rcases h4 with h4 | ⟨h4, r', a, b, c⟩
    · exact Or.inl h4
    · exact Or.inr ⟨h4, r', a, by omega, c⟩
theorem SP.yes {R R1 R2 : xR} {s x set r z z' : Int} (h : SP R R1 s x set r z) (h0 : 0 ≤ r) (hq : spq R x r) (e : R2 = xup R1 44 (55 * s + 5 * r) (ior (R1 44 (55 * s + 5 * r)) set))
    (hz : (z' = 0 ∧ z = 0 ∧ ior (R1 44 (55 * s + 5 * r)) set = R1 44 (55 * s + 5 * r)) ∨ (z' = 1 ∧ (z ≠ 0 ∨ ior (R1 44 (55 * s + 5 * r)) set ≠ R1 44 (55 * s + 5 * r)))) : SP R R2 s x set (r + 1) z' := by
  obtain ⟨h1, h2, h3, h4⟩ := h
  have hr : R1 44 (55 * s + 5 * r) = R 44 (55 * s + 5 * r) := h2 _ (fun r' a b _ => by omega)
  refine ⟨fun a b hab => (xr_o e hab).trans (h1 a b hab), fun i hi => ?_, fun r' a b c => ?_, ?_⟩
  · rw [xr_d e (hi r h0 (by omega) hq)]
    exact h2 i (fun r' a b c => hi r' a (by omega) c)
  · by_cases e2 : r' = r
    · rw [e2, xr_s e, hr]
    · rw [xr_d e (by omega)]
      exact h3 r' a (by omega) c
  · rcases hz with ⟨a1, a2, a3⟩ | ⟨a1, a2⟩
    · refine Or.inl ⟨a1, fun i => ?_⟩
      rcases h4 with ⟨-, h4⟩ | ⟨h4, -⟩
      · by_cases e2 : i = 55 * s + 5 * r
        · rw [e2, xr_s e, a3, hr]
        · rw [xr_d e e2]; exact h4 i
      · omega
    · refine Or.inr ⟨a1, ?_⟩
      by_cases a3 : ior (R1 44 (55 * s + 5 * r)) set = R1 44 (55 * s + 5 * r)
      · rcases a2 with a2 | a2
        · rcases h4 with ⟨h4, -⟩ | ⟨-, r', b1, b2, b3, b4⟩
          · omega
          · refine ⟨r', b1, by omega, b3, ?_⟩
            rw [xr_d e (by omega)]
            exact b4
        · exact absurd a3 a2
      · refine ⟨r, h0, by omega, hq, ?_⟩
        rw [xr_s e, ← hr]
        exact a3
-- ===== items =====
abbrev xIt : Type := Int → Int → Int → Prop
/-- closed under what may come: (rule, place, what follows) -/
def gClosed (g : xGr) (A : xIt) : Prop := ∀ r p t, A r p t → p < g.2.2.1 r → ∀ r', gUs g r' → g.2.2.2 r p = 6 + g.2.1 r' → ∀ t', gFs g r (p + 1) t t' → A r' 0 t'
def gCl (g : xGr) (A : xIt) : xIt := fun r p t => ∀ C : xIt, (∀ r p t, A r p t → C r p t) → gClosed g C → C r p t
def gGo (g : xGr) (A : xIt) (x : Int) : xIt := fun r p t => 1 ≤ p ∧ A r (p - 1) t ∧ p - 1 < g.2.2.1 r ∧ g.2.2.2 r (p - 1) = x
/-- the start: the rule for the whole, at its beginning, followed by the end -/
def gA0 : xIt := fun r p t => r = 10 ∧ p = 0 ∧ t = 6
theorem gCl.sub {g : xGr} {A : xIt} {r p t : Int} (h : A r p t) : gCl g A r p t := fun _ hC _ => hC r p t h
theorem gCl.closed {g : xGr} {A : xIt} : gClosed g (gCl g A) := fun r p t h hp r' h1 h2 t' h3 C hC hc => hc r p t (h C hC hc) hp r' h1 h2 t' h3
theorem gCl.ind {g : xGr} {A C : xIt} (hA : ∀ r p t, A r p t → C r p t) (hc : gClosed g C) {r p t : Int} (h : gCl g A r p t) : C r p t := h C hA hc
/-- a set between A and its closure that is closed is the closure -/
theorem gCl.eq {g : xGr} {A C : xIt} (h1 : ∀ r p t, A r p t → C r p t) (h2 : ∀ r p t, C r p t → gCl g A r p t) (hc : gClosed g C) : C = gCl g A := by
  funext r p t
  exact propext ⟨h2 r p t, fun h => h.ind h1 hc⟩
/-- a state's items in the model's memory -/
def mIt (R : xR) (s : Int) : xIt := fun r p t => (0 ≤ r ∧ r ≤ 10) ∧ (0 ≤ p ∧ p ≤ 4) ∧ (0 ≤ t ∧ t < 7) ∧ hb (R 44 (55 * s + 5 * r + p)) t
def gM (R : xR) : xGr := (R 30 3, R 35, R 36, fun r k => R 37 (4 * r + k))
/-- the model's tables say what comes of the names of its grammar -/
def mPr (R : xR) : Prop := (∀ r, 0 ≤ r → r < R 30 3 → R 38 r = zc (gUs (gM R) r)) ∧ (∀ x, 0 ≤ x → x ≤ 5 → R 40 x = zc (gEm (gM R) x)) ∧ (∀ x, 0 ≤ x → x ≤ 5 → s7 (R 41 x)) ∧ (∀ x t, 0 ≤ x → x ≤ 5 → 0 ≤ t → t < 7 → (hb (R 41 x) t ↔ gFi (gM R) x t))
/-- rules of the model in range, the one for the whole as the eleventh -/
def mGr (R : xR) : Prop := (1 ≤ R 30 3 ∧ R 30 3 ≤ 10) ∧ (∀ r, 0 ≤ r → r < R 30 3 → 0 ≤ R 35 r ∧ R 35 r ≤ 5) ∧ (∀ r, 0 ≤ r → r ≤ 10 → 0 ≤ R 36 r ∧ R 36 r ≤ 4) ∧ (∀ r k, 0 ≤ r → r ≤ 10 → 0 ≤ k → k < R 36 r → 0 ≤ R 37 (4 * r + k) ∧ R 37 (4 * r + k) ≤ 11) ∧ R 35 10 = 6 ∧ R 36 10 = 1 ∧ R 37 40 = 6 + R 35 0 ∧ (∀ r, R 30 3 ≤ r → r < 10 → R 36 r = 0)
theorem mGr.ok {R : xR} (h : mGr R) (hp : mPr R) {r : Int} (h0 : 0 ≤ r) (h1 : r ≤ 10) : mOk R r := by
  obtain ⟨a1, a2, a3, a4, a5⟩ := h
  refine ⟨⟨h0, h1⟩, a3 r h0 h1, fun k b1 b2 => ?_, fun x b1 b2 => ⟨?_, hp.2.2.1 x b1 b2⟩⟩
  · have := a4 r (k - 4 * r) h0 h1 (by omega) (by omega)
    rwa [show 4 * r + (k - 4 * r) = k by omega] at this
  · rw [hp.2.1 x b1 b2]; exact zc_or _
/-- what begins gives, in words -/
theorem bgs_bits {R : xR} (hg : mGr R) (hp : mPr R) {r set : Int} (h0 : 0 ≤ r) (h1 : r ≤ 10) (hs : s7 set) (hne : set ≠ 0) : ∀ (f : Nat) (q : Int), 0 ≤ q → (q + f = R 36 r ∨ (f = 0 ∧ R 36 r ≤ q)) → ∀ t', 0 ≤ t' → t' < 7 →
    (hb (bgs R set f (4 * r + q)) t' ↔ ∃ t, (0 ≤ t ∧ t < 7) ∧ hb set t ∧ gFs (gM R) r q t t') := by
  obtain ⟨t0, a1, a2, a3⟩ := (s7_ne0 hs).mp hne
  intro f
  induction f with
  | zero =>
    intro q hq hf t' b1 b2
    unfold bgs
    constructor
    · intro h
      exact ⟨t', ⟨b1, b2⟩, h, Or.inr ⟨fun k c1 c2 => by have : k < R 36 r := c2; omega, rfl⟩⟩
    · rintro ⟨t, -, h3, h4 | ⟨-, h4⟩⟩
      · obtain ⟨j, c1, c2, -⟩ := h4
        have : j < R 36 r := c2
        omega
      · rw [h4]; exact h3
  | succ f ih =>
    intro q hq hf t' b1 b2
    have hf' : q + ((f + 1 : Nat) : Int) = R 36 r := by omega
    have hsy := hg.2.2.2.1 r q h0 h1 hq (by omega)
    have hlt : q < (gM R).2.2.1 r := by show q < R 36 r; omega
    unfold bgs
    by_cases c1 : R 37 (4 * r + q) < 6
    · rw [if_pos c1, hb_p2 hsy.1 b1]
      constructor
      · intro h
        exact ⟨t0, ⟨a1, a2⟩, a3, Or.inl ⟨q, Int.le_refl _, hlt, fun k d1 d2 => by omega, Or.inl ⟨c1, h⟩⟩⟩
      · rintro ⟨t, -, h3, h4 | ⟨h4, -⟩⟩
        · obtain ⟨j, d1, d2, d3, d4⟩ := h4
          by_cases e : j = q
          · subst e
            rcases d4 with ⟨-, d4⟩ | ⟨d4, -⟩
            · exact d4
            · have : 6 ≤ R 37 (4 * r + j) := d4
              omega
          · have := (d3 q (Int.le_refl _) (by omega)).1
            have : 6 ≤ R 37 (4 * r + q) := this
            omega
        · have := (h4 q (Int.le_refl _) hlt).1
          have : 6 ≤ R 37 (4 * r + q) := this
          omega
    · rw [if_neg c1]
      have hx1 : 0 ≤ R 37 (4 * r + q) - 6 := by omega
      have hx2 : R 37 (4 * r + q) - 6 ≤ 5 := by omega
      have hfi := hp.2.2.2 _ t' hx1 hx2 b1 b2
      have hem := hp.2.1 _ hx1 hx2
      by_cases c2 : R 40 (R 37 (4 * r + q) - 6) = 0
      · rw [if_pos c2, hfi]
        have hne' : ¬ gEm (gM R) (R 37 (4 * r + q) - 6) := zc_eq0.mp (hem ▸ c2)
        constructor
        · intro h
          exact ⟨t0, ⟨a1, a2⟩, a3, Or.inl ⟨q, Int.le_refl _, hlt, fun k d1 d2 => by omega, Or.inr ⟨by show 6 ≤ R 37 (4 * r + q); omega, h⟩⟩⟩
        · rintro ⟨t, -, h3, h4 | ⟨h4, -⟩⟩
          · obtain ⟨j, d1, d2, d3, d4⟩ := h4
            by_cases e : j = q
            · subst e
              rcases d4 with ⟨d4, -⟩ | ⟨-, d4⟩
              · exact absurd d4 c1
              · exact d4
            · exact absurd (d3 q (Int.le_refl _) (by omega)).2 hne'
          · exact absurd (h4 q (Int.le_refl _) hlt).2 hne'
      · rw [if_neg c2, hb_ior, hfi]
        have hE : gEm (gM R) (R 37 (4 * r + q) - 6) := zc_ne.mp (hem ▸ c2)
        rw [show 4 * r + q + 1 = 4 * r + (q + 1) by omega, ih (q + 1) (by omega) (by omega) t' b1 b2]
        constructor
        · rintro (h | ⟨t, h2, h3, h4⟩)
          · exact ⟨t0, ⟨a1, a2⟩, a3, Or.inl ⟨q, Int.le_refl _, hlt, fun k d1 d2 => by omega, Or.inr ⟨by show 6 ≤ R 37 (4 * r + q); omega, h⟩⟩⟩
          · refine ⟨t, h2, h3, ?_⟩
            have here : 6 ≤ (gM R).2.2.2 r q ∧ gEm (gM R) ((gM R).2.2.2 r q - 6) := ⟨by show 6 ≤ R 37 (4 * r + q); omega, hE⟩
            rcases h4 with ⟨j, d1, d2, d3, d4⟩ | ⟨h4, h5⟩
            · refine Or.inl ⟨j, by omega, d2, fun k e1 e2 => ?_, d4⟩
              by_cases e : k = q
              · rw [e]; exact here
              · exact d3 k (by omega) e2
            · refine Or.inr ⟨fun k e1 e2 => ?_, h5⟩
              by_cases e : k = q
              · rw [e]; exact here
              · exact h4 k (by omega) e2
        · rintro ⟨t, h2, h3, ⟨j, d1, d2, d3, d4⟩ | ⟨h4, h5⟩⟩
          · by_cases e : j = q
            · subst e
              rcases d4 with ⟨d4, -⟩ | ⟨-, d4⟩
              · exact absurd d4 c1
              · exact Or.inl d4
            · exact Or.inr ⟨t, h2, h3, Or.inl ⟨j, by omega, d2, fun k e1 e2 => d3 k (by omega) e2, d4⟩⟩
          · exact Or.inr ⟨t, h2, h3, Or.inr ⟨fun k e1 e2 => h4 k (by omega) e2, h5⟩⟩
-- ===== a sum over places, that falls =====
def sumF (f : Int → Int) : Nat → Int
  | 0 => 0
  | n + 1 => sumF f n + f (n : Int)
theorem sumF_le {f h : Int → Int} : ∀ n : Nat, (∀ i : Int, 0 ≤ i → i < n → f i ≤ h i) → sumF f n ≤ sumF h n := by
  intro n
  induction n with
  | zero => intro _; exact Int.le_refl _
  | succ n ih =>
    intro hle
    have h1 := ih (fun i a b => hle i a (by omega))
    have h2 := hle (n : Int) (by omega) (by omega)
    unfold sumF
    omega
theorem sumF_lt {f h : Int → Int} : ∀ n : Nat, (∀ i : Int, 0 ≤ i → i < n → f i ≤ h i) → (∃ i : Int, 0 ≤ i ∧ i < n ∧ f i < h i) → sumF f n < sumF h n := by
  intro n
  induction n with
  | zero => rintro _ ⟨i, a, b, -⟩; omega
  | succ n ih =>
    rintro hle ⟨i, a, b, c⟩
    have h2 := hle (n : Int) (by omega) (by omega)
    have h1 := sumF_le n (fun i a b => hle i a (by omega))
    unfold sumF
    by_cases e : i = n
    · subst e; omega
    · have := ih (fun i a b => hle i a (by omega)) ⟨i, a, by omega, c⟩
      omega
theorem sumF_0 {f : Int → Int} : ∀ n : Nat, (∀ i : Int, 0 ≤ i → i < n → 0 ≤ f i) → 0 ≤ sumF f n := by
  intro n
  induction n with
  | zero => intro _; exact Int.le_refl _
  | succ n ih =>
    intro h
    have h1 := ih (fun i a b => h i a (by omega))
    have h2 := h (n : Int) (by omega) (by omega)
    unfold sumF
    omega
theorem ior_ge {a b : Int} (ha : 0 ≤ a) : a ≤ ior a b := by
  unfold ior
  have : a.toNat ≤ a.toNat ||| b.toNat := Nat.left_le_or
  omega
/-- what is wanting to full sets in a block -/
def mWant (R : xR) (s : Int) : Nat := (sumF (fun i => 127 - R 44 (55 * s + i)) 55).toNat
theorem mWant_lt {R R1 : xR} {s : Int} (h7 : ∀ i, 0 ≤ i → i < 55 → s7 (R1 44 (55 * s + i))) (hle : ∀ i, R 44 i ≤ R1 44 i) (hex : ∃ i, 0 ≤ i ∧ i < 55 ∧ R 44 (55 * s + i) < R1 44 (55 * s + i)) : mWant R1 s < mWant R s := by
  unfold mWant
  have h0 : 0 ≤ sumF (fun i => 127 - R1 44 (55 * s + i)) 55 := sumF_0 55 (fun i a b => by have := (h7 i a b).2; omega)
  have h1 : sumF (fun i => 127 - R1 44 (55 * s + i)) 55 < sumF (fun i => 127 - R 44 (55 * s + i)) 55 := by
    refine sumF_lt 55 (fun i a b => by have := hle (55 * s + i); omega) ?_
    obtain ⟨i, a, b, c⟩ := hex
    exact ⟨i, a, b, by omega⟩
  omega
