/-! pure rows: where symbols lead (led), the automaton's making, conflicts -/
/-- a set at rule r, place p of state s that x leads on -/
def mTg (R : xR) (s x r p : Int) : Prop := R 44 (55 * s + 5 * r + p) ≠ 0 ∧ p < R 36 r ∧ R 37 (4 * r + p) = x
def mLd (R R2 : xR) (N s x r p some_ : Int) : Prop := (∀ a b, a ≠ 44 → R2 a b = R a b) ∧ (∀ i, i < 55 * N → R2 44 i = R 44 i) ∧ (∀ i, 0 ≤ i → i < 2310 → s7 (R2 44 i)) ∧
  (∀ r' q', 0 ≤ r' → r' ≤ 10 → 0 ≤ q' → q' ≤ 4 → R2 44 (55 * N + 5 * r' + q') = zc (1 ≤ q' ∧ (r' < r ∨ (r' = r ∧ q' - 1 < p)) ∧ mTg R s x r' (q' - 1)) * R 44 (55 * s + 5 * r' + (q' - 1))) ∧
  some_ = zc (∃ r' p', (0 ≤ r' ∧ r' ≤ 10) ∧ (0 ≤ p' ∧ p' ≤ 3) ∧ (r' < r ∨ (r' = r ∧ p' < p)) ∧ mTg R s x r' p')
theorem mLd.zero {R R1 : xR} {N s x : Int} (h1 : ∀ a b, a ≠ 44 → R1 a b = R a b) (h2 : ∀ i, (i < 55 * N ∨ 55 * N + 55 ≤ i) → R1 44 i = R 44 i) (h3 : ∀ i, 0 ≤ i → i < 55 → R1 44 (55 * N + i) = 0) (h7 : ∀ i, 0 ≤ i → i < 2310 → s7 (R 44 i)) : mLd R R1 N s x 0 0 0 := by
  refine ⟨h1, fun i hi => h2 i (Or.inl hi), fun i a b => ?_, fun r' q' a b c d => ?_, ?_⟩
  · by_cases e : i < 55 * N ∨ 55 * N + 55 ≤ i
    · rw [h2 i e]; exact h7 i a b
    · have := h3 (i - 55 * N) (by omega) (by omega)
      rw [show 55 * N + (i - 55 * N) = i by omega] at this
      rw [this]; exact ⟨by omega, by omega⟩
  · rw [show 55 * N + 5 * r' + q' = 55 * N + (5 * r' + q') by omega, h3 _ (by omega) (by omega), zc_f (fun q => by have := q.1; have := q.2.1; omega)]
    omega
  · exact (zc_f (fun ⟨r', p', q1, q2, q3, _⟩ => by omega)).symm
theorem mLd.no {R R2 : xR} {N s x r p some_ : Int} (h : mLd R R2 N s x r p some_) (hn : ¬ mTg R s x r p) : mLd R R2 N s x r (p + 1) some_ := by
  obtain ⟨h1, h2, h3, h4, h5⟩ := h
  refine ⟨h1, h2, h3, fun r' q' a b c d => ?_, ?_⟩
  · rw [h4 r' q' a b c d]
    congr 1
    refine zc_iff ⟨fun q => ⟨q.1, by have := q.2.1; omega, q.2.2⟩, fun q => ⟨q.1, ?_, q.2.2⟩⟩
    have q2 := q.2.1
    by_cases e : r' = r ∧ q' - 1 = p
    · have q3 := q.2.2
      rw [e.1, e.2] at q3
      exact absurd q3 hn
    · omega
  · rw [h5]
    refine zc_iff ⟨fun ⟨r', p', q1, q2, q3, q4⟩ => ⟨r', p', q1, q2, by omega, q4⟩, fun ⟨r', p', q1, q2, q3, q4⟩ => ⟨r', p', q1, q2, ?_, q4⟩⟩
    by_cases e : r' = r ∧ p' = p
    · rw [e.1, e.2] at q4
      exact absurd q4 hn
    · omega
theorem mLd.yes {R R2 R3 : xR} {N s x r p some_ : Int} (h : mLd R R2 N s x r p some_) (hs : 0 ≤ s ∧ s < N) (hN : N ≤ 40) (hr : 0 ≤ r ∧ r ≤ 10) (hp : 0 ≤ p ∧ p ≤ 3) (hy : mTg R s x r p) (h7 : s7 (R 44 (55 * s + 5 * r + p))) (e : R3 = xup R2 44 (55 * N + 5 * r + p + 1) (R 44 (55 * s + 5 * r + p))) : mLd R R3 N s x r (p + 1) 1 := by
  obtain ⟨h1, h2, h3, h4, h5⟩ := h
  refine ⟨fun a b hab => (xr_o e hab).trans (h1 a b hab), fun i hi => (xr_d e (by omega)).trans (h2 i hi), fun i a b => ?_, fun r' q' a b c d => ?_, ?_⟩
  · by_cases c : i = 55 * N + 5 * r + p + 1
    · rw [c, xr_s e]; exact h7
    · rw [xr_d e c]; exact h3 i a b
  · by_cases c2 : r' = r ∧ q' = p + 1
    · obtain ⟨rfl, rfl⟩ := c2
      rw [xr_e e (by omega), zc_t ⟨by omega, by omega, by rw [show p + 1 - 1 = p by omega]; exact hy⟩, show p + 1 - 1 = p by omega]
      omega
    · rw [xr_d e (by omega), h4 r' q' a b c d]
      congr 1
      exact zc_iff ⟨fun q => ⟨q.1, by have := q.2.1; omega, q.2.2⟩, fun q => ⟨q.1, by have := q.2.1; omega, q.2.2⟩⟩
  · exact (zc_t ⟨r, p, hr, hp, by omega, hy⟩).symm
theorem mLd.row {R R2 : xR} {N s x r some_ : Int} (h : mLd R R2 N s x r 4 some_) : mLd R R2 N s x (r + 1) 0 some_ := by
  obtain ⟨h1, h2, h3, h4, h5⟩ := h
  refine ⟨h1, h2, h3, fun r' q' a b c d => ?_, ?_⟩
  · rw [h4 r' q' a b c d]
    congr 1
    exact zc_iff ⟨fun q => ⟨q.1, by have := q.2.1; omega, q.2.2⟩, fun q => ⟨q.1, by have := q.2.1; omega, q.2.2⟩⟩
  · rw [h5]
    exact zc_iff ⟨fun ⟨r', p', q1, q2, q3, q4⟩ => ⟨r', p', q1, q2, by omega, q4⟩, fun ⟨r', p', q1, q2, q3, q4⟩ => ⟨r', p', q1, q2, by omega, q4⟩⟩
theorem mLd.done {R R2 : xR} {N s x some_ : Int} (hg : mGr R) (hs : 0 ≤ s ∧ s < N) (hN : N ≤ 40) (h7 : ∀ i, 0 ≤ i → i < 2310 → s7 (R 44 i)) (h : mLd R R2 N s x 11 0 some_) : mIt R2 N = gGo (gM R) (mIt R s) x ∧ (some_ ≠ 0 ↔ ∃ r p t, gGo (gM R) (mIt R s) x r p t) := by
  obtain ⟨h1, h2, h3, h4, h5⟩ := h
  have key : ∀ r p t, mIt R2 N r p t ↔ gGo (gM R) (mIt R s) x r p t := by
    intro r p t
    constructor
    · rintro ⟨a, b, c, d⟩
      rw [h4 r p a.1 a.2 b.1 b.2] at d
      by_cases q : 1 ≤ p ∧ (r < 11 ∨ (r = 11 ∧ p - 1 < 0)) ∧ mTg R s x r (p - 1)
      · rw [zc_t q, Int.one_mul] at d
        exact ⟨q.1, ⟨a, ⟨by omega, by omega⟩, c, d⟩, q.2.2.2.1, q.2.2.2.2⟩
      · rw [zc_f q, Int.zero_mul] at d
        exact absurd d (hb_0 t)
    · rintro ⟨a, ⟨b1, b2, b3, b4⟩, c, d⟩
      have c' : p - 1 < R 36 r := c
      have hl := hg.2.2.1 r b1.1 b1.2
      refine ⟨b1, ⟨by omega, by omega⟩, b3, ?_⟩
      have hne : R 44 (55 * s + 5 * r + (p - 1)) ≠ 0 := fun e => by rw [e] at b4; exact hb_0 t b4
      rw [h4 r p b1.1 b1.2 (by omega) (by omega), zc_t ⟨a, by omega, hne, c', d⟩, Int.one_mul]
      exact b4
  refine ⟨funext fun r => funext fun p => funext fun t => propext (key r p t), ?_⟩
  rw [h5, zc_ne]
  constructor
  · rintro ⟨r, p, a, b, -, c⟩
    obtain ⟨t, d1, d2, d3⟩ := (s7_ne0 (h7 (55 * s + 5 * r + p) (by omega) (by omega))).mp c.1
    exact ⟨r, p + 1, t, by omega, by rw [show p + 1 - 1 = p by omega]; exact ⟨a, ⟨b.1, by omega⟩, ⟨d1, d2⟩, d3⟩, by rw [show p + 1 - 1 = p by omega]; exact c.2.1, by rw [show p + 1 - 1 = p by omega]; exact c.2.2⟩
  · rintro ⟨r, p, t, a, ⟨b1, b2, b3, b4⟩, c, d⟩
    have c' : p - 1 < R 36 r := c
    have hl := hg.2.2.1 r b1.1 b1.2
    have hne : R 44 (55 * s + 5 * r + (p - 1)) ≠ 0 := fun e => by rw [e] at b4; exact hb_0 t b4
    exact ⟨r, p - 1, b1, ⟨by omega, by omega⟩, by omega, hne, c', d⟩
/-- two blocks hold the same items when they are alike -/
theorem mIt_ext {R : xR} {q N : Int} (hq : 0 ≤ q ∧ q ≤ 41) (hN : 0 ≤ N ∧ N ≤ 41) (h7 : ∀ i, 0 ≤ i → i < 2310 → s7 (R 44 i)) : (∀ k, 0 ≤ k → k < 55 → R 44 (55 * q + k) = R 44 (55 * N + k)) ↔ mIt R q = mIt R N := by
  constructor
  · intro h
    funext r p t
    unfold mIt
    apply propext
    constructor
    · rintro ⟨a, b, c, d⟩
      refine ⟨a, b, c, ?_⟩
      have := h (5 * r + p) (by omega) (by omega)
      rw [show 55 * N + 5 * r + p = 55 * N + (5 * r + p) by omega, ← this, show 55 * q + (5 * r + p) = 55 * q + 5 * r + p by omega]
      exact d
    · rintro ⟨a, b, c, d⟩
      refine ⟨a, b, c, ?_⟩
      have := h (5 * r + p) (by omega) (by omega)
      rw [show 55 * q + 5 * r + p = 55 * q + (5 * r + p) by omega, this, show 55 * N + (5 * r + p) = 55 * N + 5 * r + p by omega]
      exact d
  · intro h k a b
    refine s7_ext (h7 _ (by omega) (by omega)) (h7 _ (by omega) (by omega)) (fun t c d => ?_)
    have h2 := congrFun (congrFun (congrFun h (k / 5)) (k % 5)) t
    unfold mIt at h2
    have e1 : 55 * q + 5 * (k / 5) + k % 5 = 55 * q + k := by omega
    have e2 : 55 * N + 5 * (k / 5) + k % 5 = 55 * N + k := by omega
    rw [e1, e2] at h2
    constructor
    · intro h3
      have : (0 ≤ k / 5 ∧ k / 5 ≤ 10) ∧ (0 ≤ k % 5 ∧ k % 5 ≤ 4) ∧ (0 ≤ t ∧ t < 7) ∧ hb (R 44 (55 * N + k)) t := h2 ▸ ⟨by omega, by omega, ⟨c, d⟩, h3⟩
      exact this.2.2.2
    · intro h3
      have : (0 ≤ k / 5 ∧ k / 5 ≤ 10) ∧ (0 ≤ k % 5 ∧ k % 5 ≤ 4) ∧ (0 ≤ t ∧ t < 7) ∧ hb (R 44 (55 * q + k)) t := h2 ▸ ⟨by omega, by omega, ⟨c, d⟩, h3⟩
      exact this.2.2.2
-- ===== the automaton's making: how many states, their items, where they lead (12 k + x) =====
abbrev auT : Type := Int × (Int → xIt) × (Int → Int)
def up1 {α : Type} (f : Int → α) (k : Int) (v : α) : Int → α := fun i => if i = k then v else f i
theorem up1_s {α : Type} (f : Int → α) (k : Int) (v : α) : up1 f k v k = v := if_pos rfl
theorem up1_n {α : Type} (f : Int → α) {k i : Int} (v : α) (h : i ≠ k) : up1 f k v i = f i := if_neg h
def auS (g : xGr) (c : Int) (a b : auT) : Prop :=
  ((¬ ∃ r p t, gGo g (a.2.1 (c / 12)) (c % 12) r p t) ∧ b = (a.1, a.2.1, up1 a.2.2 c (-1))) ∨
  ((∃ r p t, gGo g (a.2.1 (c / 12)) (c % 12) r p t) ∧ ∃ q, 0 ≤ q ∧ q < a.1 ∧ a.2.1 q = gCl g (gGo g (a.2.1 (c / 12)) (c % 12)) ∧ b = (a.1, a.2.1, up1 a.2.2 c q)) ∨
  ((∃ r p t, gGo g (a.2.1 (c / 12)) (c % 12) r p t) ∧ (∀ q, 0 ≤ q → q < a.1 → a.2.1 q ≠ gCl g (gGo g (a.2.1 (c / 12)) (c % 12))) ∧ b = (a.1 + 1, up1 a.2.1 a.1 (gCl g (gGo g (a.2.1 (c / 12)) (c % 12))), up1 a.2.2 c a.1))
def auI (g : xGr) : auT := (1, fun _ => gCl g gA0, fun _ => -1)
/-- after c steps -/
def auR (g : xGr) : Nat → auT → Prop
  | 0, a => a = auI g
  | c + 1, a => ∃ b, auR g c b ∧ ((c : Int) / 12 < b.1 ∧ b.1 ≤ 40) ∧ auS g c b a
/-- the automaton, whole (more than 40 states: too many) -/
def auF (g : xGr) (a : auT) : Prop := ∃ c : Nat, auR g c a ∧ (a.1 ≤ (c : Int) / 12 ∨ 40 < a.1)
def auD (a : auT) : Prop := ∀ i j, 0 ≤ i → i < a.1 → 0 ≤ j → j < a.1 → a.2.1 i = a.2.1 j → i = j
theorem auR.inv {g : xGr} : ∀ (c : Nat) {a : auT}, auR g c a → auD a ∧ 1 ≤ a.1 ∧ a.1 ≤ 41 ∧ (c : Int) ≤ 12 * a.1 := by
  intro c
  induction c with
  | zero =>
    intro a h
    have h' : a = auI g := h
    subst h'
    refine ⟨fun i j a b c d _ => ?_, by show (1 : Int) ≤ 1; omega, by show (1 : Int) ≤ 41; omega, ?_⟩
    · have b' : i < 1 := b
      have d' : j < 1 := d
      omega
    · show ((0 : Nat) : Int) ≤ 12 * 1
      omega
  | succ c ih =>
    rintro a ⟨b, h1, h2, h3⟩
    obtain ⟨i1, i2, i3, i4⟩ := ih h1
    rcases h3 with ⟨-, rfl⟩ | ⟨-, q, -, -, -, rfl⟩ | ⟨-, hn, rfl⟩
    · exact ⟨i1, i2, i3, by show ((c + 1 : Nat) : Int) ≤ 12 * b.1; omega⟩
    · exact ⟨i1, i2, i3, by show ((c + 1 : Nat) : Int) ≤ 12 * b.1; omega⟩
    · refine ⟨fun i j a1 a2 a3 a4 e => ?_, by show 1 ≤ b.1 + 1; omega, by show b.1 + 1 ≤ 41; omega, by show ((c + 1 : Nat) : Int) ≤ 12 * (b.1 + 1); omega⟩
      have a2' : i < b.1 + 1 := a2
      have a4' : j < b.1 + 1 := a4
      have e' : up1 b.2.1 b.1 (gCl g (gGo g (b.2.1 (c / 12)) (c % 12))) i = up1 b.2.1 b.1 (gCl g (gGo g (b.2.1 (c / 12)) (c % 12))) j := e
      by_cases ei : i = b.1
      · by_cases ej : j = b.1
        · rw [ei, ej]
        · rw [ei, up1_s, up1_n _ _ ej] at e'
          exact absurd e'.symm (hn j a3 (by omega))
      · by_cases ej : j = b.1
        · rw [ej, up1_s, up1_n _ _ ei] at e'
          exact absurd e' (hn i a1 (by omega))
        · rw [up1_n _ _ ei, up1_n _ _ ej] at e'
          exact i1 i j a1 (by omega) a3 (by omega) e'
theorem auS.fun {g : xGr} {c : Int} {a b b' : auT} (hd : auD a) (h : auS g c a b) (h' : auS g c a b') : b = b' := by
  rcases h with ⟨n, e⟩ | ⟨n, q, q1, q2, q3, e⟩ | ⟨n, q, e⟩ <;> rcases h' with ⟨n', e'⟩ | ⟨n', q', q1', q2', q3', e'⟩ | ⟨n', q', e'⟩
  · rw [e, e']
  · exact absurd n' n
  · exact absurd n' n
  · exact absurd n n'
  · have : q = q' := hd q q' q1 q2 q1' q2' (q3.trans q3'.symm)
    rw [e, e', this]
  · exact absurd q3 (q' q q1 q2)
  · exact absurd n n'
  · exact absurd q3' (q q' q1' q2')
  · rw [e, e']
theorem auR.fun {g : xGr} : ∀ (c : Nat) {a a' : auT}, auR g c a → auR g c a' → a = a' := by
  intro c
  induction c with
  | zero => intro a a' h h'; exact (show a = auI g from h).trans (show a' = auI g from h').symm
  | succ c ih =>
    rintro a a' ⟨b, h1, -, h3⟩ ⟨b', h1', -, h3'⟩
    have := ih h1 h1'
    subst this
    exact h3.fun (auR.inv c h1).1 h3'
theorem auR.back {g : xGr} : ∀ (d c : Nat) {a : auT}, auR g (c + d) a → ∃ b, auR g c b ∧ (0 < d → (c : Int) / 12 < b.1 ∧ b.1 ≤ 40) := by
  intro d
  induction d with
  | zero => intro c a h; exact ⟨a, h, fun q => absurd q (Nat.lt_irrefl 0)⟩
  | succ d ih =>
    intro c a h
    obtain ⟨b, h1, h2, h3⟩ := h
    obtain ⟨b', g1, g2⟩ := ih c h1
    by_cases e : 0 < d
    · exact ⟨b', g1, fun _ => g2 e⟩
    · have : d = 0 := by omega
      subst this
      have := auR.fun c g1 h1
      subst this
      exact ⟨b', g1, fun _ => h2⟩
theorem auF.fun {g : xGr} {a a' : auT} (h : auF g a) (h' : auF g a') : a = a' := by
  obtain ⟨c, h1, h2⟩ := h
  obtain ⟨c', h1', h2'⟩ := h'
  rcases Nat.lt_trichotomy c c' with e | e | e
  · obtain ⟨d, rfl⟩ : ∃ d, c' = c + d := ⟨c' - c, by omega⟩
    obtain ⟨b, g1, g2⟩ := auR.back d c h1'
    have := auR.fun c h1 g1
    subst this
    have := g2 (by omega)
    omega
  · subst e; exact auR.fun c h1 h1'
  · obtain ⟨d, rfl⟩ : ∃ d, c = c' + d := ⟨c - c', by omega⟩
    obtain ⟨b, g1, g2⟩ := auR.back d c' h1
    have := auR.fun c' h1' g1
    subst this
    have := g2 (by omega)
    omega
-- ===== conflicts =====
/-- rule r ends with t ahead, and something else goes on with t -/
def gCf (g : xGr) (A : xIt) : Prop := ∃ r t, A r (g.2.2.1 r) t ∧ ((∃ q, q ≠ r ∧ A q (g.2.2.1 q) t) ∨ (∃ q p t', A q p t' ∧ p < g.2.2.1 q ∧ g.2.2.2 q p < 6 ∧ g.2.2.2 q p = t))
def mCfq (R : xR) (s r q p : Int) : Prop := ¬ (q = r ∧ p = R 36 r) ∧ p ≤ R 36 q ∧ ((p = R 36 q ∧ iand (R 44 (55 * s + 5 * q + p)) (R 44 (55 * s + 5 * r + R 36 r)) ≠ 0) ∨ (p ≠ R 36 q ∧ R 44 (55 * s + 5 * q + p) ≠ 0 ∧ R 37 (4 * q + p) < 6 ∧ hb (R 44 (55 * s + 5 * r + R 36 r)) (R 37 (4 * q + p))))
theorem iand_s7 {a b : Int} (ha : s7 a) : s7 (iand a b) := by
  obtain ⟨a1, a2⟩ := ha
  unfold iand
  have : a.toNat &&& b.toNat ≤ a.toNat := Nat.and_le_left
  exact ⟨by omega, by omega⟩
theorem mCf_iff {R : xR} {s : Int} (hg : mGr R) (hs : 0 ≤ s ∧ s ≤ 41) (h7 : ∀ i, 0 ≤ i → i < 2310 → s7 (R 44 i)) : (∃ r q p, (0 ≤ r ∧ r ≤ 10) ∧ (0 ≤ q ∧ q ≤ 10) ∧ (0 ≤ p ∧ p ≤ 4) ∧ mCfq R s r q p) ↔ gCf (gM R) (mIt R s) := by
  have hlen := hg.2.2.1
  constructor
  · rintro ⟨r, q, p, a, b, c, d1, d2, d3⟩
    have hlr := hlen r a.1 a.2
    rcases d3 with ⟨e1, e2⟩ | ⟨e1, e2, e3, e4⟩
    · obtain ⟨t, f1, f2, f3⟩ := (s7_ne0 (iand_s7 (h7 (55 * s + 5 * q + p) (by omega) (by omega)))).mp e2
      rw [hb_iand] at f3
      refine ⟨r, t, ⟨a, hlr, ⟨f1, f2⟩, f3.2⟩, Or.inl ⟨q, fun e => d1 ⟨e, by rw [e1, e]⟩, ⟨b, by rw [← show p = (gM R).2.2.1 q from e1]; exact c, ⟨f1, f2⟩, by rw [← show p = (gM R).2.2.1 q from e1]; exact f3.1⟩⟩⟩
    · have hsy := hg.2.2.2.1 q p b.1 b.2 c.1 (by omega)
      obtain ⟨t', f1, f2, f3⟩ := (s7_ne0 (h7 (55 * s + 5 * q + p) (by omega) (by omega))).mp e2
      exact ⟨r, R 37 (4 * q + p), ⟨a, hlr, ⟨by omega, by omega⟩, e4⟩, Or.inr ⟨q, p, t', ⟨b, c, ⟨f1, f2⟩, f3⟩, by show p < R 36 q; omega, e3, rfl⟩⟩
  · rintro ⟨r, t, ⟨a, b, c, d⟩, ⟨q, e1, e2, e3, e4, e5⟩ | ⟨q, p, t', ⟨e1, e2, e3, e4⟩, e5, e6, e7⟩⟩
    · refine ⟨r, q, R 36 q, a, e2, e3, fun e => e1 e.1, Int.le_refl _, Or.inl ⟨rfl, ?_⟩⟩
      exact (s7_ne0 (iand_s7 (h7 _ (by have : 0 ≤ R 36 q := e3.1; omega) (by have : R 36 q ≤ 4 := e3.2; omega)))).mpr ⟨t, e4.1, e4.2, by rw [hb_iand]; exact ⟨e5, d⟩⟩
    · have e5' : p < R 36 q := e5
      refine ⟨r, q, p, a, e1, e2, fun e => by rw [e.1] at e5'; omega, by omega, Or.inr ⟨by omega, fun e => by rw [e] at e4; exact hb_0 _ e4, e6, ?_⟩⟩
      rw [show R 37 (4 * q + p) = t from e7]
      exact d
theorem shr7N : ∀ a : Nat, a < 128 → ∀ x : Nat, x < 7 → iI (a : Int) >>> (iI (x : Int) &&& 31) = iI ((a >>> x : Nat) : Int) := by decide +kernel
theorem bit7N : ∀ a : Nat, a < 128 → ∀ x : Nat, x < 7 → ((a >>> x) &&& 1 : Nat) = if a.testBit x = true then 1 else 0 := by decide +kernel
def ishr (a x : Int) : Int := ((a.toNat >>> x.toNat : Nat) : Int)
theorem iI_ishr {a x : Int} (ha : s7 a) (hx : 0 ≤ x ∧ x < 7) : iI a >>> (iI x &&& 31) = iI (ishr a x) := by
  obtain ⟨m, rfl⟩ := Int.eq_ofNat_of_zero_le ha.1
  obtain ⟨n, rfl⟩ := Int.eq_ofNat_of_zero_le hx.1
  have := ha.2
  exact shr7N m (by omega) n (by omega)
theorem iI_bit {a x : Int} (ha : s7 a) (hx : 0 ≤ x ∧ x < 7) : iI (ishr a x) &&& iI 1 = iI (zc (hb a x)) := by
  obtain ⟨m, rfl⟩ := Int.eq_ofNat_of_zero_le ha.1
  obtain ⟨n, rfl⟩ := Int.eq_ofNat_of_zero_le hx.1
  have := ha.2
  unfold ishr hb
  simp only [Int.toNat_natCast]
  have h1 := iI_and (m >>> n) 1
  have h2 := bit7N m (by omega) n (by omega)
  rw [h2] at h1
  refine h1.trans ?_
  by_cases c : m.testBit n = true
  · rw [if_pos c, zc_t c]; rfl
  · rw [if_neg c, zc_f c]; rfl
-- ===== only the rules in use matter =====
def gE (g g' : xGr) : Prop := g.1 = g'.1 ∧ ∀ r, 0 ≤ r → r < g.1 → g.2.1 r = g'.2.1 r ∧ g.2.2.1 r = g'.2.2.1 r ∧ ∀ k, 0 ≤ k → k < g.2.2.1 r → g.2.2.2 r k = g'.2.2.2 r k
theorem gE.symm {g g' : xGr} (h : gE g g') : gE g' g := ⟨h.1.symm, fun r a b => by
  obtain ⟨c, d, e⟩ := h.2 r a (by rw [h.1]; exact b)
  exact ⟨c.symm, d.symm, fun k f1 f2 => (e k f1 (by rw [d]; exact f2)).symm⟩⟩
theorem gE.cm1 {g g' : xGr} (h : gE g g') {x : Int} (hx : gCm g x) : gCm g' x := by
  intro P hP
  refine hx P (fun r a b c => ?_)
  obtain ⟨d, e, f⟩ := h.2 r a b
  rw [d]
  exact hP r a (by rw [← h.1]; exact b) (fun k k1 k2 => by rw [← f k k1 (by rw [e]; exact k2)]; exact c k k1 (by rw [e]; exact k2))
theorem gE.cm {g g' : xGr} (h : gE g g') (x : Int) : gCm g x ↔ gCm g' x := ⟨h.cm1, h.symm.cm1⟩
theorem gE.us1 {g g' : xGr} (h : gE g g') {r : Int} (hr : gUs g r) : gUs g' r := by
  obtain ⟨a, b, c⟩ := hr
  obtain ⟨d, e, f⟩ := h.2 r a b
  exact ⟨a, by rw [← h.1]; exact b, fun k k1 k2 => by rw [← f k k1 (by rw [e]; exact k2)]; exact (c k k1 (by rw [e]; exact k2)).imp id h.cm1⟩
theorem gE.us {g g' : xGr} (h : gE g g') (r : Int) : gUs g r ↔ gUs g' r := ⟨h.us1, h.symm.us1⟩
theorem gE.em1 {g g' : xGr} (h : gE g g') {x : Int} (hx : gEm g x) : gEm g' x := by
  intro P hP
  refine hx P (fun r a c => ?_)
  obtain ⟨d, e, f⟩ := h.2 r a.1 a.2.1
  rw [d]
  exact hP r (h.us1 a) (fun k k1 k2 => by rw [← f k k1 (by rw [e]; exact k2)]; exact c k k1 (by rw [e]; exact k2))
theorem gE.em {g g' : xGr} (h : gE g g') (x : Int) : gEm g x ↔ gEm g' x := ⟨h.em1, h.symm.em1⟩
theorem gE.fi1 {g g' : xGr} (h : gE g g') {x t : Int} (hx : gFi g x t) : gFi g' x t := by
  intro Q hQ
  refine hx Q (fun r j t a b c d i => ?_)
  obtain ⟨d', e, f⟩ := h.2 r a.1 a.2.1
  rw [d']
  rw [f j b c] at i
  exact hQ r j t (h.us1 a) b (by rw [← e]; exact c) (fun k k1 k2 => by
    have k3 : k < g.2.2.1 r := by omega
    rw [← f k k1 k3]
    exact ⟨(d k k1 k2).1, h.em1 (d k k1 k2).2⟩) i
theorem gE.fi {g g' : xGr} (h : gE g g') (x t : Int) : gFi g x t ↔ gFi g' x t := ⟨h.fi1, h.symm.fi1⟩
/-- the grammar with the rule for the whole as the eleventh -/
def gP (g : xGr) : xGr := (g.1, fun r => if r = 10 then 6 else g.2.1 r, fun r => if r = 10 then 1 else if g.1 ≤ r ∧ r < 10 then 0 else g.2.2.1 r, fun r k => if 4 * r + k = 40 then 6 + g.2.1 0 else g.2.2.2 r k)
theorem gP.e {g : xGr} (h : gWf g) : gE g (gP g) := by
  refine ⟨rfl, fun r a b => ?_⟩
  have h10 := h.2.1
  have hl := (h.2.2 r a b).2.1
  refine ⟨(if_neg (by omega)).symm, ?_, fun k k1 k2 => (if_neg (by omega)).symm⟩
  show g.2.2.1 r = if r = 10 then 1 else if g.1 ≤ r ∧ r < 10 then 0 else g.2.2.1 r
  rw [if_neg (by omega), if_neg (by omega)]
