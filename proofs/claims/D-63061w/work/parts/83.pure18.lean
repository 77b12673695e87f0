/-! pure rows: where rules end (isClear) -/
theorem auF.ok40 {g : xGr} {a : auT} (h : auF g a) (h40 : a.1 ≤ 40) : auOk g a := by
  obtain ⟨c, h1, h2⟩ := h
  obtain ⟨i1, i2⟩ := auR.part c h1
  have h3 := (auR.inv c h1).2.1
  refine ⟨i1, h3, by omega, fun k x p1 p2 p3 p4 => ?_⟩
  have h4 := (i2 (12 * k + x) (by omega) (by omega)).2
  rw [show (12 * k + x) / 12 = k by omega, show (12 * k + x) % 12 = x by omega] at h4
  exact h4
/-- rule j ends in state k with t behind it, and comes ahead of rule j0, letter t0 -/
def iEn (G : xGr) (a : auT) (u : Int → Int) (m k j0 t0 t j : Int) : Prop := (0 ≤ j ∧ j < m) ∧ (j < j0 ∨ (j = j0 ∧ t < t0)) ∧ a.2.1 k (u j) (G.2.2.1 (u j)) t
def iSh (a : auT) (k t : Int) : Prop := t < 6 ∧ 0 ≤ a.2.2 (12 * k + t)
def iRw (G : xGr) (a : auT) (u : Int → Int) (m k j0 t0 t v : Int) : Prop := (iSh a k t ∧ v = 1 + a.2.2 (12 * k + t) ∧ ∀ j, ¬ iEn G a u m k j0 t0 t j) ∨ (¬ iSh a k t ∧ ∃ j, iEn G a u m k j0 t0 t j ∧ (v = if j = 0 then 1000 else -1 - j) ∧ ∀ j', iEn G a u m k j0 t0 t j' → j' = j) ∨ (¬ iSh a k t ∧ (∀ j, ¬ iEn G a u m k j0 t0 t j) ∧ v = 0)
theorem iRw.zero {G : xGr} {a : auT} {u : Int → Int} {m k t : Int} (ho : auOk G a) (hk : 0 ≤ k ∧ k < a.1) (ht : 0 ≤ t ∧ t < 7) : iRw G a u m k 0 0 t (dld a k t) := by
  have hno : ∀ j, ¬ iEn G a u m k 0 0 t j := fun j q => by have := q.1; have := q.2.1; omega
  unfold dld
  by_cases c : t = 6
  · rw [if_pos c]
    exact Or.inr (Or.inr ⟨fun q => by have := q.1; omega, hno, rfl⟩)
  · rw [if_neg c]
    have ei : ix t = t := if_pos (by omega)
    rw [ei]
    rcases ho.2.2.2 k t hk.1 hk.2 ht.1 (by omega) with ⟨q, -⟩ | ⟨q, -⟩
    · exact Or.inr (Or.inr ⟨fun w => by have := w.2; omega, hno, by omega⟩)
    · exact Or.inl ⟨⟨by omega, q.1⟩, rfl, hno⟩
theorem iEn.more {G : xGr} {a : auT} {u : Int → Int} {m k j0 t0 j1 t1 t j : Int} (h : iEn G a u m k j0 t0 t j) (hm : j < j0 ∨ (j = j0 ∧ t < t0) → (j < j1 ∨ (j = j1 ∧ t < t1))) : iEn G a u m k j1 t1 t j := ⟨h.1, hm h.2.1, h.2.2⟩
/-- the same when no further rule ends -/
theorem iRw.cg {G : xGr} {a : auT} {u : Int → Int} {m k j0 t0 j1 t1 t v : Int} (h : iRw G a u m k j0 t0 t v) (hi : ∀ j, iEn G a u m k j0 t0 t j ↔ iEn G a u m k j1 t1 t j) : iRw G a u m k j1 t1 t v := by
  rcases h with ⟨h1, h2, h3⟩ | ⟨h1, j, h2, h3, h4⟩ | ⟨h1, h2, h3⟩
  · exact Or.inl ⟨h1, h2, fun j q => h3 j ((hi j).mpr q)⟩
  · exact Or.inr (Or.inl ⟨h1, j, (hi j).mp h2, h3, fun j' q => h4 j' ((hi j').mpr q)⟩)
  · exact Or.inr (Or.inr ⟨h1, fun j q => h2 j ((hi j).mpr q), h3⟩)
theorem iRw.row {G : xGr} {a : auT} {u : Int → Int} {m k j0 t v : Int} (h : iRw G a u m k j0 7 t v) (ht : 0 ≤ t ∧ t < 7) : iRw G a u m k (j0 + 1) 0 t v := h.cg (fun j => ⟨fun q => q.more (by omega), fun q => q.more (by omega)⟩)
theorem iRw.no {G : xGr} {a : auT} {u : Int → Int} {m k j0 t0 t v : Int} (h : iRw G a u m k j0 t0 t v) (hn : ¬ a.2.1 k (u j0) (G.2.2.1 (u j0)) t0) : iRw G a u m k j0 (t0 + 1) t v := h.cg (fun j => ⟨fun q => q.more (by omega), fun q => by
  by_cases e : j = j0 ∧ t = t0
  · have := q.2.2
    rw [e.1, e.2] at this
    exact absurd this hn
  · exact q.more (by omega)⟩)
theorem iRw.oth {G : xGr} {a : auT} {u : Int → Int} {m k j0 t0 t v : Int} (h : iRw G a u m k j0 t0 t v) (hn : t ≠ t0) : iRw G a u m k j0 (t0 + 1) t v := h.cg (fun j => ⟨fun q => q.more (by omega), fun q => q.more (by omega)⟩)
theorem iRw.yes {G : xGr} {a : auT} {u : Int → Int} {m k j0 t0 v : Int} (h : iRw G a u m k j0 t0 t0 0) (hj : 0 ≤ j0 ∧ j0 < m) (hy : a.2.1 k (u j0) (G.2.2.1 (u j0)) t0) (hv : v = if j0 = 0 then 1000 else -1 - j0) : iRw G a u m k j0 (t0 + 1) t0 v := by
  rcases h with ⟨h1, h2, -⟩ | ⟨-, j, h2, h3, -⟩ | ⟨h1, h2, -⟩
  · have := h1.2; omega
  · have := h2.1
    by_cases c : j = 0
    · rw [if_pos c] at h3; omega
    · rw [if_neg c] at h3; omega
  · refine Or.inr (Or.inl ⟨h1, j0, ⟨hj, by omega, hy⟩, hv, fun j' q => ?_⟩)
    by_cases e : j' = j0
    · exact e
    · exact absurd (q.more (j1 := j0) (t1 := t0) (by omega)) (h2 j')
/-- an entry is taken: a conflict -/
theorem iRw.bad {G : xGr} {a : auT} {u : Int → Int} {m k j0 t0 v : Int} (hu : uOk G u m) (ho : auOk G a) (hk : 0 ≤ k ∧ k < a.1) (ht : 0 ≤ t0) (h : iRw G a u m k j0 t0 t0 v) (hj : 0 ≤ j0 ∧ j0 < m) (hy : a.2.1 k (u j0) (G.2.2.1 (u j0)) t0) (hv : v ≠ 0) : gCf G (a.2.1 k) := by
  refine ⟨u j0, t0, hy, ?_⟩
  rcases h with ⟨h1, -, -⟩ | ⟨-, j, h2, -, -⟩ | ⟨-, -, h3⟩
  · rcases ho.2.2.2 k t0 hk.1 hk.2 ht (by have := h1.1; omega) with ⟨q, -⟩ | ⟨-, -, r, p, t', q1, q2, q3, q4⟩
    · have := h1.2; omega
    · exact Or.inr ⟨r, p - 1, t', q2, q3, by have := h1.1; omega, q4⟩
  · have h3 := h2.2.1
    exact Or.inl ⟨u j, fun e => by have := hu.2.2.2.1 j j0 h2.1.1 h2.1.2 hj.1 hj.2 e; omega, h2.2.2⟩
  · exact absurd h3 hv
/-- all entries stand: no conflict -/
theorem iRw.good {G : xGr} {a : auT} {u : Int → Int} {m k : Int} {R : xR} {kk : Int} (hu : uOk G u m) (ho : auOk G a) (hk : 0 ≤ k ∧ k < a.1) (hA : dIt R u m kk = a.2.1 k) (w : Int → Int) (h : ∀ t, 0 ≤ t → t < 7 → iRw G a u m k m 0 t (w t)) : ¬ gCf G (a.2.1 k) ∧ ∀ t, 0 ≤ t → t < 7 → dLt G a u m k t (w t) := by
  have hin : ∀ r p t, a.2.1 k r p t → (∃ j, (0 ≤ j ∧ j < m) ∧ u j = r) ∧ (0 ≤ t ∧ t < 7) ∧ 0 ≤ p := fun r p t q => by
    rw [← hA] at q
    obtain ⟨j, j0, j1, j2, j3, -⟩ := q
    exact ⟨⟨j, j0, j1⟩, j3, j2.1⟩
  have hen : ∀ t j, (0 ≤ j ∧ j < m) → a.2.1 k (u j) (G.2.2.1 (u j)) t → iEn G a u m k m 0 t j := fun t j hj q => ⟨hj, by omega, q⟩
  refine ⟨?_, fun t t0 t1 => ?_⟩
  · rintro ⟨r, t, h1, h2⟩
    obtain ⟨⟨j, j0, j1⟩, ht, -⟩ := hin _ _ _ h1
    rw [← j1] at h1
    have he := hen t j j0 h1
    rcases h t ht.1 ht.2 with ⟨-, -, q⟩ | ⟨q0, jj, q1, -, q2⟩ | ⟨-, q, -⟩
    · exact q j he
    · rcases h2 with ⟨r2, n2, h2⟩ | ⟨r2, p2, t2, h2, h3, h4, h5⟩
      · obtain ⟨⟨j2, j20, j21⟩, -, -⟩ := hin _ _ _ h2
        rw [← j21] at h2
        have e1 := q2 j he
        have e2 := q2 j2 (hen t j2 j20 h2)
        apply n2
        rw [← j1, ← j21, e1, e2]
      · apply q0
        have hp2 := (hin _ _ _ h2).2.2
        refine ⟨by omega, ?_⟩
        rcases ho.2.2.2 k t hk.1 hk.2 ht.1 (by omega) with ⟨-, w2⟩ | ⟨w2, -⟩
        · exact absurd ⟨r2, p2 + 1, t2, by omega, by rw [show p2 + 1 - 1 = p2 by omega]; exact h2, by omega, by rw [show p2 + 1 - 1 = p2 by omega]; exact h5⟩ w2
        · exact w2.1
    · exact q j he
  · rcases h t t0 t1 with ⟨q1, q2, -⟩ | ⟨q0, jj, q1, q2, -⟩ | ⟨q0, q1, q2⟩
    · exact Or.inl ⟨q1, q2⟩
    · exact Or.inr (Or.inl ⟨q0, jj, q1.1, q1.2.2, q2⟩)
    · exact Or.inr (Or.inr ⟨q0, fun j j0 j1 q => q1 j (hen t j ⟨j0, j1⟩ q), q2⟩)
theorem iRv {G : xGr} {a : auT} {u : Int → Int} {m k j0 t0 t v : Int} (h : iRw G a u m k j0 t0 t v) (ho : auOk G a) (hk : 0 ≤ k ∧ k < a.1) (ht : 0 ≤ t ∧ t < 7) (hm : m ≤ 11) : -32768 ≤ v ∧ v < 32768 := by
  have h40 := ho.2.2.1
  rcases h with ⟨h1, h2, -⟩ | ⟨-, j, h2, h3, -⟩ | ⟨-, -, h3⟩
  · rcases ho.2.2.2 k t hk.1 hk.2 ht.1 (by have := h1.1; omega) with ⟨q, -⟩ | ⟨q, -⟩ <;> omega
  · have := h2.1
    by_cases c : j = 0
    · rw [if_pos c] at h3; omega
    · rw [if_neg c] at h3; omega
  · omega
