/-! pure rows: where a state leads -/
theorem dy_inj {a b : Int} (h : dy a = dy b) : a = b := by
  have h1 := dy_cs a
  have h2 := dy_cs b
  omega
theorem dy_6 (a : Int) : dy a ≠ 6 := by
  have h1 := dy_cs a
  omega
/-- the items ahead of which the symbol y (as the desk numbers it) stands, moved on -/
def gGd (G : xGr) (A : xIt) (y : Int) : xIt := fun r p t => 1 ≤ p ∧ A r (p - 1) t ∧ p - 1 < G.2.2.1 r ∧ dy (G.2.2.2 r (p - 1)) = y
theorem gGd_dy {G : xGr} {A : xIt} {x : Int} : gGd G A (dy x) = gGo G A x := by
  funext r p t
  exact propext ⟨fun h => ⟨h.1, h.2.1, h.2.2.1, dy_inj h.2.2.2⟩, fun h => ⟨h.1, h.2.1, h.2.2.1, by rw [h.2.2.2]⟩⟩
theorem gGd_6 {G : xGr} {A : xIt} : ∀ r p t, ¬ gGd G A 6 r p t := fun r p t h => dy_6 _ h.2.2.2
/-- rule j, place p, what follows t: an item of the state at kk ahead of y -/
def nQ (G : xGr) (u : Int → Int) (m : Int) (R : xR) (kk y j p t : Int) : Prop := (0 ≤ j ∧ j < m) ∧ (0 ≤ p ∧ p < G.2.2.1 (u j)) ∧ (0 ≤ t ∧ t < 7) ∧ dy (G.2.2.2 (u j) p) = y ∧ sH R (kk + 1) ((j * 5 + p) * 7 + t)
def nPa (G : xGr) (u : Int → Int) (m : Int) (R : xR) (kk y j0 p0 t0 : Int) (i : Int) : Prop := ∃ j p t, nQ G u m R kk y j p t ∧ (j < j0 ∨ (j = j0 ∧ (p < p0 ∨ (p = p0 ∧ t < t0)))) ∧ i = (j * 5 + p + 1) * 7 + t
theorem nPa_0 {G : xGr} {u : Int → Int} {m kk y i : Int} {R : xR} : False ↔ nPa G u m R kk y 0 0 0 i := ⟨False.elim, fun ⟨j, p, t, h, h1, _⟩ => by have := h.1; have := h.2.1; have := h.2.2.1; omega⟩
theorem nPa_row {G : xGr} {u : Int → Int} {m kk y i j p : Int} {R : xR} (hp : G.2.2.1 (u j) ≤ p) : nPa G u m R kk y j p 0 i ↔ nPa G u m R kk y (j + 1) 0 0 i := by
  constructor
  · rintro ⟨j', p', t', h1, h2, h3⟩
    exact ⟨j', p', t', h1, by omega, h3⟩
  · rintro ⟨j', p', t', h1, h2, h3⟩
    refine ⟨j', p', t', h1, ?_, h3⟩
    have a1 := h1.2.1
    have a2 := h1.2.2.1
    by_cases e : j' = j
    · rw [e] at a1; omega
    · omega
theorem nPa_7 {G : xGr} {u : Int → Int} {m kk y i j p : Int} {R : xR} : nPa G u m R kk y j p 7 i ↔ nPa G u m R kk y j (p + 1) 0 i := by
  constructor
  · rintro ⟨j', p', t', h1, h2, h3⟩
    exact ⟨j', p', t', h1, by omega, h3⟩
  · rintro ⟨j', p', t', h1, h2, h3⟩
    exact ⟨j', p', t', h1, by have := h1.2.2.1; omega, h3⟩
theorem nPa_no {G : xGr} {u : Int → Int} {m kk y i j p : Int} {R : xR} (h : ¬ dy (G.2.2.2 (u j) p) = y) : nPa G u m R kk y j p 0 i ↔ nPa G u m R kk y j (p + 1) 0 i := by
  constructor
  · rintro ⟨j', p', t', h1, h2, h3⟩
    exact ⟨j', p', t', h1, by omega, h3⟩
  · rintro ⟨j', p', t', h1, h2, h3⟩
    refine ⟨j', p', t', h1, ?_, h3⟩
    have a2 := h1.2.2.1
    by_cases e : j' = j ∧ p' = p
    · have := h1.2.2.2.1
      rw [e.1, e.2] at this
      exact absurd this h
    · omega
theorem nPa_nt {G : xGr} {u : Int → Int} {m kk y i j p t : Int} {R : xR} (h : ¬ sH R (kk + 1) ((j * 5 + p) * 7 + t)) : nPa G u m R kk y j p t i ↔ nPa G u m R kk y j p (t + 1) i := by
  constructor
  · rintro ⟨j', p', t', h1, h2, h3⟩
    exact ⟨j', p', t', h1, by omega, h3⟩
  · rintro ⟨j', p', t', h1, h2, h3⟩
    refine ⟨j', p', t', h1, ?_, h3⟩
    by_cases e : j' = j ∧ p' = p ∧ t' = t
    · have := h1.2.2.2.2
      rw [e.1, e.2.1, e.2.2] at this
      exact absurd this h
    · omega
theorem nPa_yt {G : xGr} {u : Int → Int} {m kk y i j p t : Int} {R : xR} (h : nQ G u m R kk y j p t) : (nPa G u m R kk y j p t i ∨ i = (j * 5 + p + 1) * 7 + t) ↔ nPa G u m R kk y j p (t + 1) i := by
  constructor
  · rintro (⟨j', p', t', h1, h2, h3⟩ | h1)
    · exact ⟨j', p', t', h1, by omega, h3⟩
    · exact ⟨j, p, t, h, by omega, h1⟩
  · rintro ⟨j', p', t', h1, h2, h3⟩
    by_cases e : j' = j ∧ p' = p ∧ t' = t
    · exact Or.inr (by rw [h3, e.1, e.2.1, e.2.2])
    · exact Or.inl ⟨j', p', t', h1, by omega, h3⟩
/-- behind the last rule: the state n holds what was moved on -/
theorem nPa_done {G : xGr} {u : Int → Int} {m kk n y z : Int} {R R1 R2 : xR} (hw : gW G) (hu : uOk G u m) (hz : ∀ c, 0 ≤ c → c < 448 → ¬ sH R1 (n + 1) c) (h : Spr R1 R2 n (nPa G u m R kk y m 0 0) z) : dSt R2 m n ∧ dIt R2 u m n = gGd G (dIt R u m kk) y := by
  have hb : ∀ i, 0 ≤ i → i < 448 → (sH R2 (n + 1) i ↔ ∃ j p t, nQ G u m R kk y j p t ∧ i = (j * 5 + p + 1) * 7 + t) := by
    intro i i0 i1
    rw [h.2.1 i i0 i1]
    constructor
    · rintro (q | ⟨j, p, t, q1, -, q2⟩)
      · exact absurd q (hz i i0 i1)
      · exact ⟨j, p, t, q1, q2⟩
    · rintro ⟨j, p, t, q1, q2⟩
      exact Or.inr ⟨j, p, t, q1, Or.inl q1.1.2, q2⟩
  have hln : ∀ j, 0 ≤ j → j < m → G.2.2.1 (u j) ≤ 4 := fun j j0 j1 => (hw.1.2 (u j) (uOk.rng hw hu ⟨j0, j1⟩).1 (uOk.rng hw hu ⟨j0, j1⟩).2).1.2
  refine ⟨fun i i0 i1 q => ?_, ?_⟩
  · obtain ⟨j, p, t, q1, q2⟩ := (hb i i0 i1).mp q
    have := hln j q1.1.1 q1.1.2
    have := q1.1
    have := q1.2.1
    have := q1.2.2.1
    omega
  · have hm := hu.1
    funext r p t
    refine propext ⟨?_, ?_⟩
    · rintro ⟨j, a, b, c, d, e⟩
      obtain ⟨j', p', t', q1, q2⟩ := (hb _ (by omega) (by omega)).mp e
      have h4 := hln j' q1.1.1 q1.1.2
      have b1 := q1.1
      have b2 := q1.2.1
      have b3 := q1.2.2.1
      have e1 : j' = j := by omega
      have e2 : p' = p - 1 := by omega
      have e3 : t' = t := by omega
      rw [e1, e2, e3] at q1
      rw [← b]
      exact ⟨by omega, ⟨j, a, rfl, by omega, d, q1.2.2.2.2⟩, q1.2.1.2, q1.2.2.2.1⟩
    · rintro ⟨a, ⟨j, b1, b2, b3, b4, b5⟩, c, d⟩
      rw [← b2] at c d
      have h4 := hln j b1.1 b1.2
      refine ⟨j, b1, b2, by omega, b4, (hb _ (by omega) (by omega)).mpr ⟨j, p - 1, t, ⟨b1, ⟨by omega, c⟩, b4, d, b5⟩, by omega⟩⟩
/-- two states hold the same bits -/
def alB (R : xR) (a b : Int) : Prop := ∀ c, 0 ≤ c → c < 448 → (sH R (a + 1) c ↔ sH R (b + 1) c)
theorem alB_iff {R : xR} {u : Int → Int} {m a b : Int} {G : xGr} (hu : uOk G u m) (ha : dSt R m a) (hb : dSt R m b) : alB R a b ↔ dIt R u m a = dIt R u m b := by
  have hm := hu.1
  constructor
  · intro h
    funext r p t
    exact propext ⟨fun ⟨j, q1, q2, q3, q4, q5⟩ => ⟨j, q1, q2, q3, q4, (h _ (by omega) (by omega)).mp q5⟩, fun ⟨j, q1, q2, q3, q4, q5⟩ => ⟨j, q1, q2, q3, q4, (h _ (by omega) (by omega)).mpr q5⟩⟩
  · intro h
    have key : ∀ x y, dSt R m x → dIt R u m x = dIt R u m y → ∀ c, 0 ≤ c → c < 448 → sH R (x + 1) c → sH R (y + 1) c := by
      intro x y hx hxy c c0 c1 q
      have hc := hx c c0 c1 q
      have h1 : dIt R u m x (u (c / 35)) (c % 35 / 7) (c % 7) := ⟨c / 35, by omega, rfl, by omega, by omega, by rw [show (c / 35 * 5 + c % 35 / 7) * 7 + c % 7 = c by omega]; exact q⟩
      rw [hxy] at h1
      obtain ⟨j, q1, q2, q3, q4, q5⟩ := h1
      have e := hu.2.2.2.1 j (c / 35) q1.1 q1.2 (by omega) (by omega) q2
      rw [e, show (c / 35 * 5 + c % 35 / 7) * 7 + c % 7 = c by omega] at q5
      exact q5
    exact fun c c0 c1 => ⟨key a b ha h c c0 c1, key b a hb h.symm c c0 c1⟩
theorem dSt_em {R : xR} {u : Int → Int} {m a : Int} {G : xGr} (hu : uOk G u m) (ha : dSt R m a) : (∀ c, 0 ≤ c → c < 448 → ¬ sH R (a + 1) c) ↔ ¬ ∃ r p t, dIt R u m a r p t := by
  have hm := hu.1
  constructor
  · rintro h ⟨r, p, t, j, q1, q2, q3, q4, q5⟩
    exact h _ (by omega) (by omega) q5
  · intro h c c0 c1 q
    have hc := ha c c0 c1 q
    exact h ⟨u (c / 35), c % 35 / 7, c % 7, c / 35, by omega, rfl, by omega, by omega, by rw [show (c / 35 * 5 + c % 35 / 7) * 7 + c % 7 = c by omega]; exact q⟩
