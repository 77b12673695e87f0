/-! pure rows: the desk's close -/
/-- at the used rule j, place p nothing is wanting -/
def dCa (G : xGr) (R : xR) (u : Int → Int) (m k j p : Int) : Prop := p < G.2.2.1 (u j) → ∀ t, 0 ≤ t → t < 7 → sH R (k + 1) ((j * 5 + p) * 7 + t) → ∀ r', gUs G r' → G.2.2.2 (u j) p = 6 + G.2.1 r' → ∀ t', gFs G (u j) (p + 1) t t' → dIt R u m k r' 0 t'
/-- R2: a step on the way from R's state to its closure -/
def dCl (G : xGr) (R R2 : xR) (u : Int → Int) (m k : Int) : Prop := (∀ a, a ≠ k + 1 → R2 a = R a) ∧ dSt R2 m k ∧ (∀ i, 0 ≤ i → i < 448 → sH R (k + 1) i → sH R2 (k + 1) i) ∧ ∀ r p t, dIt R2 u m k r p t → gCl G (dIt R u m k) r p t
def dPa (G : xGr) (R R1 R2 : xR) (u : Int → Int) (m k j p more : Int) : Prop := dCl G R R2 u m k ∧ (∀ i, 0 ≤ i → i < 448 → sH R1 (k + 1) i → sH R2 (k + 1) i) ∧ ((more = 0 ∧ (∀ i, 0 ≤ i → i < 448 → sH R2 (k + 1) i → sH R1 (k + 1) i) ∧ ∀ j' p', 0 ≤ j' → j' < m → 0 ≤ p' → (j' < j ∨ (j' = j ∧ p' < p)) → dCa G R1 u m k j' p') ∨ (more = 1 ∧ ∃ i, (0 ≤ i ∧ i < 448) ∧ sH R2 (k + 1) i ∧ ¬ sH R1 (k + 1) i))
theorem dPa.m01 {G : xGr} {R R1 R2 : xR} {u : Int → Int} {m k j p more : Int} (h : dPa G R R1 R2 u m k j p more) : more = 0 ∨ more = 1 := h.2.2.imp (fun q => q.1) (fun q => q.1)
theorem dCl.rf {G : xGr} {R : xR} {u : Int → Int} {m k : Int} (h : dSt R m k) : dCl G R R u m k := ⟨fun _ _ => rfl, h, fun _ _ _ q => q, fun _ _ _ q => gCl.sub q⟩
theorem dPa.zero {G : xGr} {R R1 : xR} {u : Int → Int} {m k : Int} (h : dCl G R R1 u m k) : dPa G R R1 R1 u m k 0 0 0 := ⟨h, fun _ _ _ q => q, Or.inl ⟨rfl, fun _ _ _ q => q, fun j' p' a b c d => by omega⟩⟩
theorem dIt_of {R R1 : xR} {u : Int → Int} {m k r p t : Int} (hm : m ≤ 11) (h : ∀ i, 0 ≤ i → i < 448 → sH R (k + 1) i → sH R1 (k + 1) i) (q : dIt R u m k r p t) : dIt R1 u m k r p t := by
  obtain ⟨j, a, b, c, d, e⟩ := q
  exact ⟨j, a, b, c, d, h _ (by omega) (by omega) e⟩
theorem dCa_of {G : xGr} {R R1 : xR} {u : Int → Int} {m k j p : Int} (hm : m ≤ 11) (hj : 0 ≤ j ∧ j < m) (hp : 0 ≤ p ∧ p ≤ 4) (h : ∀ i, 0 ≤ i → i < 448 → (sH R1 (k + 1) i ↔ sH R (k + 1) i)) (q : dCa G R1 u m k j p) : dCa G R u m k j p :=
  fun hl t t0 t1 hs r' hu hx t' hf => dIt_of hm (fun i i0 i1 z => (h i i0 i1).mp z) (q hl t t0 t1 ((h _ (by omega) (by omega)).mpr hs) r' hu hx t' hf)
theorem dPa.skip {G : xGr} {R R1 R2 : xR} {u : Int → Int} {m k j p more : Int} (hm : m ≤ 11) (hj : 0 ≤ j ∧ j < m) (hp : 0 ≤ p ∧ p ≤ 4) (h : dPa G R R1 R2 u m k j p more) (hca : dCa G R2 u m k j p) : dPa G R R1 R2 u m k j (p + 1) more := by
  obtain ⟨a1, a2, a3⟩ := h
  refine ⟨a1, a2, a3.imp (fun q => ⟨q.1, q.2.1, fun j' p' b c d f => ?_⟩) id⟩
  by_cases e : j' = j ∧ p' = p
  · rw [e.1, e.2]
    exact dCa_of hm hj hp (fun i i0 i1 => ⟨q.2.1 i i0 i1, a2 i i0 i1⟩) hca
  · exact q.2.2 j' p' b c d (by omega)
theorem dPa.row {G : xGr} {R R1 R2 : xR} {u : Int → Int} {m k j p more : Int} (hp : G.2.2.1 (u j) ≤ p) (h : dPa G R R1 R2 u m k j p more) : dPa G R R1 R2 u m k (j + 1) 0 more := by
  obtain ⟨a1, a2, a3⟩ := h
  refine ⟨a1, a2, a3.imp (fun q => ⟨q.1, q.2.1, fun j' p' b c d f => ?_⟩) id⟩
  by_cases e : j' = j ∧ p ≤ p'
  · rw [e.1]
    exact fun hl => by omega
  · exact q.2.2 j' p' b c d (by omega)
theorem dCa_let {G : xGr} {R : xR} {u : Int → Int} {m k j p : Int} (hw : gWf G) (h : G.2.2.2 (u j) p < 6) : dCa G R u m k j p := by
  intro _ t _ _ _ r' hu hx
  have := (hw.2.2 r' hu.1 hu.2.1).1.1
  omega
/-- one spread -/
theorem dPa.spr {G : xGr} {R R1 R2 R3 : xR} {u : Int → Int} {m k j p more more' set z : Int} (hw : gW G) (hu : uOk G u m) (hl6 : G.2.1 10 = 6) (hj : 0 ≤ j ∧ j < m) (hp : 0 ≤ p ∧ p < G.2.2.1 (u j)) (hx : 6 ≤ G.2.2.2 (u j) p ∧ G.2.2.2 (u j) p ≤ 11) (hlen : G.2.2.1 (u j) ≤ 4) (h : dPa G R R1 R2 u m k j p more)
    (hset : ∀ t', 0 ≤ t' → t' < 7 → (hb set t' ↔ ∃ t, (0 ≤ t ∧ t < 7) ∧ sH R2 (k + 1) ((j * 5 + p) * 7 + t) ∧ gFs G (u j) (p + 1) t t')) (hsp : Spr R2 R3 k (sP G u m (G.2.2.2 (u j) p - 6) set) z) (hm : (z = 0 ∧ more' = more) ∨ (z ≠ 0 ∧ more' = 1)) : dPa G R R1 R3 u m k j (p + 1) more' := by
  obtain ⟨⟨a1, a2, a3, a4⟩, a5, a6⟩ := h
  obtain ⟨s1, s2, s3⟩ := hsp
  obtain ⟨⟨um1, um2⟩, u0, u1, u2, u3⟩ := hu
  have huj : 0 ≤ u j ∧ u j ≤ 10 := by
    by_cases c : j = 0
    · rw [c, u0]; omega
    · have := u1 j (by omega) hj.2
      have h1 := this.2.1
      have h2 := hw.1.1.2.1
      exact ⟨this.1, by omega⟩
  -- what comes
  have hnew : ∀ i, sP G u m (G.2.2.2 (u j) p - 6) set i → ∃ j' t', (1 ≤ j' ∧ j' < m) ∧ (0 ≤ t' ∧ t' < 7) ∧ i = 35 * j' + t' ∧ gUs G (u j') ∧ G.2.2.2 (u j) p = 6 + G.2.1 (u j') ∧ ∃ t, (0 ≤ t ∧ t < 7) ∧ sH R2 (k + 1) ((j * 5 + p) * 7 + t) ∧ gFs G (u j) (p + 1) t t' := by
    rintro i ⟨j', t', ⟨b1, b2, b3, b4⟩, b5⟩
    have hj0 : j' ≠ 0 := fun c => by rw [c, u0, hl6] at b3; omega
    exact ⟨j', t', by omega, b2, b5, u1 j' (by omega) b1.2, by omega, (hset t' b2.1 b2.2).mp b4⟩
  have hcl : dCl G R R3 u m k := by
    refine ⟨fun a ha => (s1 a ha).trans (a1 a ha), fun i i0 i1 q => ?_, fun i i0 i1 q => (s2 i i0 i1).mpr (Or.inl (a3 i i0 i1 q)), fun r p' t q => ?_⟩
    · rcases (s2 i i0 i1).mp q with q | q
      · exact a2 i i0 i1 q
      · obtain ⟨j', t', b1, b2, b3, -⟩ := hnew i q
        omega
    · obtain ⟨j1, c1, c2, c3, c4, c5⟩ := q
      rcases (s2 _ (by omega) (by omega)).mp c5 with q | q
      · exact a4 r p' t ⟨j1, c1, c2, c3, c4, q⟩
      · obtain ⟨j', t', b1, b2, b3, b4, b5, t0, b6, b7, b8⟩ := hnew _ q
        have e1 : j1 = j' := by omega
        have e2 : p' = 0 := by omega
        have e3 : t = t' := by omega
        subst e1
        subst e2
        subst e3
        rw [← c2]
        exact gCl.closed (u j) p t0 (a4 (u j) p t0 ⟨j, hj, rfl, by omega, b6, b7⟩) hp.2 (u j1) b4 b5 t b8
  have hmono : ∀ i, 0 ≤ i → i < 448 → sH R1 (k + 1) i → sH R3 (k + 1) i := fun i i0 i1 q => (s2 i i0 i1).mpr (Or.inl (a5 i i0 i1 q))
  refine ⟨hcl, hmono, ?_⟩
  rcases hm with ⟨m1, m2⟩ | ⟨m1, m2⟩
  · rcases s3 with ⟨-, s4⟩ | ⟨s4, -⟩
    · have hsame : ∀ i, 0 ≤ i → i < 448 → sH R3 (k + 1) i → sH R2 (k + 1) i := fun i i0 i1 q => by
        rcases (s2 i i0 i1).mp q with q | q
        · exact q
        · exact s4 i i0 i1 q
      have hca : dCa G R2 u m k j p := by
        intro _ t t0 t1 hs r' hr' hxx t' hf
        have ht' := gFs_rng hw.1 huj.1 huj.2 (by omega) ⟨t0, t1⟩ hf
        obtain ⟨j', b1, b2, b3⟩ := u3 r' hr'
        refine ⟨j', ⟨by omega, b2⟩, b3, by omega, ht', ?_⟩
        refine s4 _ (by omega) (by omega) ⟨j', t', ⟨⟨by omega, b2⟩, ht', by rw [b3]; omega, (hset t' ht'.1 ht'.2).mpr ⟨t, ⟨t0, t1⟩, hs, hf⟩⟩, by omega⟩
      rcases a6 with ⟨c1, c2, c3⟩ | ⟨c1, i, c2, c3, c4⟩
      · refine Or.inl ⟨by omega, fun i i0 i1 q => c2 i i0 i1 (hsame i i0 i1 q), fun j' p' b c d f => ?_⟩
        by_cases e : j' = j ∧ p' = p
        · rw [e.1, e.2]
          exact dCa_of um2 hj (by omega) (fun i i0 i1 => ⟨c2 i i0 i1, a5 i i0 i1⟩) hca
        · exact c3 j' p' b c d (by omega)
      · exact Or.inr ⟨by omega, i, c2, (s2 i c2.1 c2.2).mpr (Or.inl c3), c4⟩
    · omega
  · refine Or.inr ⟨m2, ?_⟩
    rcases s3 with ⟨s4, -⟩ | ⟨-, i, s5, s6, s7⟩
    · exact absurd s4 m1
    · exact ⟨i, s5, (s2 i s5.1 s5.2).mpr (Or.inr s6), fun q => s7 (a5 i s5.1 s5.2 q)⟩
noncomputable def dN (R : xR) (k : Int) : Nat := (sumF (fun i => zc (¬ sH R (k + 1) i)) 448).toNat
theorem dPa.meas {G : xGr} {R R1 R2 : xR} {u : Int → Int} {m k j p more : Int} (h : dPa G R R1 R2 u m k j p more) : 2 * dN R2 k + more.toNat < 2 * dN R1 k + 1 := by
  obtain ⟨-, a5, a6⟩ := h
  have hz : ∀ i, 0 ≤ i → i < 448 → zc (¬ sH R2 (k + 1) i) ≤ zc (¬ sH R1 (k + 1) i) := by
    intro i i0 i1
    by_cases c : sH R1 (k + 1) i
    · rw [zc_f (fun q => q (a5 i i0 i1 c)), zc_f (fun q => q c)]
      exact Int.le_refl _
    · rw [zc_t c]
      have := zc_or (¬ sH R2 (k + 1) i)
      omega
  have h0 : 0 ≤ sumF (fun i => zc (¬ sH R2 (k + 1) i)) 448 := sumF_0 448 (fun i _ _ => by have := zc_or (¬ sH R2 (k + 1) i); omega)
  have hle : sumF (fun i => zc (¬ sH R2 (k + 1) i)) 448 ≤ sumF (fun i => zc (¬ sH R1 (k + 1) i)) 448 := sumF_le 448 (fun i i0 i1 => hz i i0 (by omega))
  unfold dN
  rcases a6 with ⟨e, -⟩ | ⟨e, i, b1, b2, b3⟩
  · rw [e]
    have : (0 : Int).toNat = 0 := rfl
    omega
  · have hlt : sumF (fun i => zc (¬ sH R2 (k + 1) i)) 448 < sumF (fun i => zc (¬ sH R1 (k + 1) i)) 448 := sumF_lt 448 (fun i i0 i1 => hz i i0 (by omega)) ⟨i, b1.1, by omega, by
      show zc (¬ sH R2 (k + 1) i) < zc (¬ sH R1 (k + 1) i)
      rw [zc_f (fun q => q b2), zc_t b3]
      decide⟩
    rw [e]
    have : (1 : Int).toNat = 1 := rfl
    omega
/-- behind the last pass -/
theorem dPa.done {G : xGr} {R R1 R2 : xR} {u : Int → Int} {m k : Int} (hu : uOk G u m) (h : dPa G R R1 R2 u m k m 0 0) : (∀ a, a ≠ k + 1 → R2 a = R a) ∧ dSt R2 m k ∧ dIt R2 u m k = gCl G (dIt R u m k) := by
  obtain ⟨⟨a1, a2, a3, a4⟩, a5, ⟨-, c2, c3⟩ | ⟨c1, -⟩⟩ := h
  · have hm := hu.1
    refine ⟨a1, a2, gCl.eq (fun r p t q => dIt_of hm.2 a3 q) a4 (fun r p t q hp r' hr' hx t' hf => ?_)⟩
    obtain ⟨j, b1, b2, b3, b4, b5⟩ := q
    rw [← b2] at hp hx hf
    have := c3 j p b1.1 b1.2 b3.1 (Or.inl b1.2) hp t b4.1 b4.2 (c2 _ (by omega) (by omega) b5) r' hr' hx t' hf
    exact dIt_of hm.2 a5 this
  · omega
/-- what the desk's tables say of FIRST -/
theorem dFs {G : xGr} {R : xR} {r q t t' : Int} (hp : dPr G R) (hq : 0 ≤ q) (ht : 0 ≤ t ∧ t < 7) (hs : ∀ k, 0 ≤ k → k < G.2.2.1 r → 0 ≤ G.2.2.2 r k ∧ G.2.2.2 r k ≤ 11) (ht' : 0 ≤ t') : gFs G r q t t' ↔ dF R (G.2.2.2 r) q (G.2.2.1 r) t' ∨ ((∀ j, q ≤ j → j < G.2.2.1 r → dE R (G.2.2.2 r) j) ∧ t' = t) := by
  have hE : ∀ k, 0 ≤ k → k < G.2.2.1 r → (dE R (G.2.2.2 r) k ↔ (6 ≤ G.2.2.2 r k ∧ gEm G (G.2.2.2 r k - 6))) := by
    intro k k0 k1
    unfold dE
    constructor
    · intro z
      have h1 := (hp.2 (G.2.2.2 r k - 6) (by have := z.1; omega) (by have := hs k k0 k1; omega)).2.1
      exact ⟨z.1, zc_ne.mp (by rw [← h1]; exact z.2)⟩
    · intro z
      have h1 := (hp.2 (G.2.2.2 r k - 6) (by have := z.1; omega) (by have := hs k k0 k1; omega)).2.1
      exact ⟨z.1, by rw [h1]; exact zc_ne.mpr z.2⟩
  unfold gFs dF
  refine or_congr ?_ (and_congr ?_ Iff.rfl)
  · constructor
    · rintro ⟨j, a, b, c, d⟩
      refine ⟨j, a, b, fun i i0 i1 => (hE i (by omega) (by omega)).mpr (c i i0 i1), d.imp id (fun z => ⟨z.1, ?_⟩)⟩
      exact ((hp.2 _ (by omega) (by have := hs j (by omega) b; omega)).2.2 t' ht').mpr z.2
    · rintro ⟨j, a, b, c, d⟩
      refine ⟨j, a, b, fun i i0 i1 => (hE i (by omega) (by omega)).mp (c i i0 i1), d.imp id (fun z => ⟨z.1, ?_⟩)⟩
      exact ((hp.2 _ (by omega) (by have := hs j (by omega) b; omega)).2.2 t' ht').mp z.2
  · exact ⟨fun z j j0 j1 => (hE j (by omega) j1).mpr (z j j0 j1), fun z j j0 j1 => (hE j (by omega) j1).mp (z j j0 j1)⟩
