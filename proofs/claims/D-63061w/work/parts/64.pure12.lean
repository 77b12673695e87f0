/-! pure rows: the desk's states as sets of items -/
/-- the used rules: the j-th of them is rule u j -/
def uOk (G : xGr) (u : Int → Int) (m : Int) : Prop := (1 ≤ m ∧ m ≤ 11) ∧ u 0 = 10 ∧ (∀ j, 1 ≤ j → j < m → gUs G (u j)) ∧ (∀ i j, 0 ≤ i → i < m → 0 ≤ j → j < m → u i = u j → i = j) ∧ ∀ r, gUs G r → ∃ j, 1 ≤ j ∧ j < m ∧ u j = r
/-- the desk's list of the used rules -/
def dUs (σ : xS) (R : xR) (G : xGr) (u : Int → Int) (m : Int) (υ : Int → Int) (e : Int) (cap : Nat) : Prop := uOk G u m ∧ alI σ R 3 e m cap ∧ 1000 ≤ e ∧ ∀ j, 0 ≤ j → j < m → R e j = ((σ (υ j)).1 : Int) + 1 ∧ rlI σ R (υ j) (G.2.1 (u j)) (G.2.2.1 (u j)).toNat (G.2.2.2 (u j)) ∧ 1000 ≤ υ j ∧ 0 ≤ G.2.2.1 (u j)
theorem dUs.keep {σ : xS} {R R1 : xR} {G : xGr} {u υ : Int → Int} {m e : Int} {cap : Nat} (h : dUs σ R G u m υ e cap) (h3 : R1 3 = R 3) (he : R1 e = R e) (hv : ∀ j, 0 ≤ j → j < m → R1 (υ j) = R (υ j) ∧ R1 (υ j + 1) = R (υ j + 1)) : dUs σ R1 G u m υ e cap := by
  obtain ⟨a0, a2, a3, a4⟩ := h
  refine ⟨a0, a2.keep h3, a3, fun i i0 i1 => ?_⟩
  obtain ⟨b1, b2, b3⟩ := a4 i i0 i1
  exact ⟨by rw [he]; exact b1, b2.keep (hv i i0 i1).1 (hv i i0 i1).2, b3⟩
/-- the items of the state at region k -/
def dIt (R : xR) (u : Int → Int) (m k : Int) : xIt := fun r p t => ∃ j, (0 ≤ j ∧ j < m) ∧ u j = r ∧ (0 ≤ p ∧ p ≤ 4) ∧ (0 ≤ t ∧ t < 7) ∧ sH R (k + 1) ((j * 5 + p) * 7 + t)
/-- it has no others -/
def dSt (R : xR) (m k : Int) : Prop := ∀ i, 0 ≤ i → i < 448 → sH R (k + 1) i → i < 35 * m
theorem sH_eq {R R1 : xR} {k : Int} (h : R1 k = R k) (i : Int) : sH R1 k i ↔ sH R k i := by unfold sH; rw [h]
/-- items of which P tells have come to the state at region k; z: whether some were new -/
def Spr (R R1 : xR) (k : Int) (P : Int → Prop) (z : Int) : Prop := (∀ a, a ≠ k + 1 → R1 a = R a) ∧ (∀ i, 0 ≤ i → i < 448 → (sH R1 (k + 1) i ↔ sH R (k + 1) i ∨ P i)) ∧ ((z = 0 ∧ ∀ i, 0 ≤ i → i < 448 → P i → sH R (k + 1) i) ∨ (z = 1 ∧ ∃ i, (0 ≤ i ∧ i < 448) ∧ P i ∧ ¬ sH R (k + 1) i))
theorem Spr.zero {R : xR} {k : Int} : Spr R R k (fun _ => False) 0 := ⟨fun _ _ => rfl, fun i _ _ => ⟨Or.inl, fun q => q.resolve_right id⟩, Or.inl ⟨rfl, fun _ _ _ q => q.elim⟩⟩
theorem Spr.m01 {R R1 : xR} {k z : Int} {P : Int → Prop} (h : Spr R R1 k P z) : z = 0 ∨ z = 1 := h.2.2.imp (fun q => q.1) (fun q => q.1)
theorem Spr.iff {R R1 : xR} {k z : Int} {P P' : Int → Prop} (h : Spr R R1 k P z) (hP : ∀ i, 0 ≤ i → i < 448 → (P i ↔ P' i)) : Spr R R1 k P' z := by
  obtain ⟨a1, a2, a3⟩ := h
  refine ⟨a1, fun i i0 i1 => by rw [a2 i i0 i1, hP i i0 i1], a3.imp (fun q => ⟨q.1, fun i i0 i1 p => q.2 i i0 i1 ((hP i i0 i1).mpr p)⟩) (fun q => ?_)⟩
  obtain ⟨q1, i, i0, i1, i2⟩ := q
  exact ⟨q1, i, i0, (hP i i0.1 i0.2).mp i1, i2⟩
theorem iI_zor {a b : Int} (ha : a = 0 ∨ a = 1) (hb : b = 0 ∨ b = 1) : iI a ||| iI b = iI (zc (a ≠ 0 ∨ b ≠ 0)) := by
  rcases ha with rfl | rfl <;> rcases hb with rfl | rfl
  · rw [zc_f (by omega)]; decide
  · rw [zc_t (by omega)]; decide
  · rw [zc_t (by omega)]; decide
  · rw [zc_t (by omega)]; decide
theorem Spr.add {R R1 R2 : xR} {k z z' i0 : Int} {P : Int → Prop} (h : Spr R R1 k P z) (hi : 0 ≤ i0 ∧ i0 < 448) (hz : z' = zc (¬ sH R1 (k + 1) i0)) (hk : ∀ a, a ≠ k + 1 → R2 a = R1 a) (hs : ∀ c, 0 ≤ c → c < 448 → (sH R2 (k + 1) c ↔ sH R1 (k + 1) c ∨ c = i0)) : Spr R R2 k (fun i => P i ∨ i = i0) (zc (z ≠ 0 ∨ z' ≠ 0)) := by
  obtain ⟨a1, a2, a3⟩ := h
  refine ⟨fun a ha => (hk a ha).trans (a1 a ha), fun i b0 b1 => by rw [hs i b0 b1, a2 i b0 b1, or_assoc], ?_⟩
  by_cases c : z ≠ 0 ∨ z' ≠ 0
  · rw [zc_t c]
    refine Or.inr ⟨rfl, ?_⟩
    rcases a3 with ⟨b1, b2⟩ | ⟨b1, i, b2, b3, b4⟩
    · have hz1 : z' ≠ 0 := c.resolve_left (fun q => q b1)
      rw [hz] at hz1
      have h1 := zc_ne.mp hz1
      refine ⟨i0, hi, Or.inr rfl, fun q => h1 ((a2 i0 hi.1 hi.2).mpr (Or.inl q))⟩
    · exact ⟨i, b2, Or.inl b3, b4⟩
  · rw [zc_f c]
    refine Or.inl ⟨rfl, fun i b0 b1 q => ?_⟩
    have hz0 : z = 0 := by omega
    have hz1 : z' = 0 := by omega
    rcases a3 with ⟨-, b2⟩ | ⟨b1, -⟩
    · rcases q with q | q
      · exact b2 i b0 b1 q
      · rw [q]
        rw [hz] at hz1
        have h1 : sH R1 (k + 1) i0 := Classical.byContradiction (fun w => zc_eq0.mp hz1 w)
        rcases (a2 i0 hi.1 hi.2).mp h1 with h2 | h2
        · exact h2
        · exact b2 i0 hi.1 hi.2 h2
    · omega
/-- the rules of name x, with what may follow as bits -/
def sQ (G : xGr) (u : Int → Int) (m x f j t : Int) : Prop := (0 ≤ j ∧ j < m) ∧ (0 ≤ t ∧ t < 7) ∧ G.2.1 (u j) = x ∧ hb f t
def sP (G : xGr) (u : Int → Int) (m x f : Int) (i : Int) : Prop := ∃ j t, sQ G u m x f j t ∧ i = 35 * j + t
/-- those that come ahead of rule j, letter t -/
def sPa (G : xGr) (u : Int → Int) (m x f j0 t0 : Int) (i : Int) : Prop := ∃ j t, sQ G u m x f j t ∧ (j < j0 ∨ (j = j0 ∧ t < t0)) ∧ i = 35 * j + t
theorem sPa_0 {G : xGr} {u : Int → Int} {m x f i : Int} : False ↔ sPa G u m x f 0 0 i := ⟨False.elim, fun ⟨j, t, h, h1, _⟩ => by have := h.1; have := h.2.1; omega⟩
theorem sPa_end {G : xGr} {u : Int → Int} {m x f j i : Int} (h : m ≤ j) : sPa G u m x f j 0 i ↔ sP G u m x f i := ⟨fun ⟨j, t, h, _, h2⟩ => ⟨j, t, h, h2⟩, fun ⟨j', t, h1, h2⟩ => ⟨j', t, h1, Or.inl (by have := h1.1; omega), h2⟩⟩
theorem sPa_row {G : xGr} {u : Int → Int} {m x f j i : Int} (h : ¬ G.2.1 (u j) = x) : sPa G u m x f j 0 i ↔ sPa G u m x f (j + 1) 0 i := by
  constructor
  · rintro ⟨j', t, h1, h2, h3⟩
    exact ⟨j', t, h1, by omega, h3⟩
  · rintro ⟨j', t, h1, h2, h3⟩
    refine ⟨j', t, h1, ?_, h3⟩
    by_cases e : j' = j
    · rw [e] at h1; exact absurd h1.2.2.1 h
    · have := h1.2.1; omega
theorem sPa_7 {G : xGr} {u : Int → Int} {m x f j i : Int} : sPa G u m x f j 7 i ↔ sPa G u m x f (j + 1) 0 i := by
  constructor
  · rintro ⟨j', t, h1, h2, h3⟩
    exact ⟨j', t, h1, by omega, h3⟩
  · rintro ⟨j', t, h1, h2, h3⟩
    exact ⟨j', t, h1, by have := h1.2.1; omega, h3⟩
theorem sPa_no {G : xGr} {u : Int → Int} {m x f j t i : Int} (h : ¬ hb f t) : sPa G u m x f j t i ↔ sPa G u m x f j (t + 1) i := by
  constructor
  · rintro ⟨j', t', h1, h2, h3⟩
    exact ⟨j', t', h1, by omega, h3⟩
  · rintro ⟨j', t', h1, h2, h3⟩
    refine ⟨j', t', h1, ?_, h3⟩
    by_cases e : t' = t
    · rw [e] at h1; exact absurd h1.2.2.2 h
    · omega
theorem sPa_yes {G : xGr} {u : Int → Int} {m x f j t i : Int} (h : sQ G u m x f j t) : (sPa G u m x f j t i ∨ i = 35 * j + t) ↔ sPa G u m x f j (t + 1) i := by
  constructor
  · rintro (⟨j', t', h1, h2, h3⟩ | h1)
    · exact ⟨j', t', h1, by omega, h3⟩
    · exact ⟨j, t, h, by omega, h1⟩
  · rintro ⟨j', t', h1, h2, h3⟩
    by_cases e : j' = j ∧ t' = t
    · exact Or.inr (by rw [h3, e.1, e.2])
    · exact Or.inl ⟨j', t', h1, by omega, h3⟩
