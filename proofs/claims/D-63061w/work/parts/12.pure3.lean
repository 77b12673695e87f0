/-! pure rows: the model's close, pass by pass -/
theorem gM_eq {R R1 : xR} (h : ∀ a b, a ≠ 44 → R1 a b = R a b) : gM R1 = gM R := by
  unfold gM
  have e1 : R1 30 3 = R 30 3 := h 30 3 (by decide)
  have e2 : R1 35 = R 35 := funext (fun b => h 35 b (by decide))
  have e3 : R1 36 = R 36 := funext (fun b => h 36 b (by decide))
  have e4 : R1 37 = R 37 := funext (fun b => h 37 b (by decide))
  rw [e1, e2, e3, e4]
theorem mGr.wf {R : xR} (h : mGr R) : gWf (gM R) := by
  obtain ⟨a1, a2, a3, a4, -⟩ := h
  refine ⟨by show 0 ≤ R 30 3; omega, a1.2, fun r h0 h1 => ?_⟩
  have h1' : r < R 30 3 := h1
  exact ⟨a2 r h0 h1', a3 r h0 (by omega), fun k h2 h3 => a4 r k h0 (by omega) h2 h3⟩
theorem gFi_rng {g : xGr} (hw : gWf g) {x t : Int} (h : gFi g x t) : 0 ≤ t ∧ t < 6 := by
  refine h (fun _ t => 0 ≤ t ∧ t < 6) (fun r j t hu h0 h1 _ h3 => ?_)
  rcases h3 with ⟨h3, h4⟩ | ⟨-, h3⟩
  · have := (hw.2.2 r hu.1 hu.2.1).2.2 j h0 h1
    omega
  · exact h3
/-- the rules in range, the eleventh as well -/
def gWf1 (g : xGr) : Prop := gWf g ∧ ∀ r, 0 ≤ r → r ≤ 10 → (0 ≤ g.2.2.1 r ∧ g.2.2.1 r ≤ 4) ∧ ∀ k, 0 ≤ k → k < g.2.2.1 r → 0 ≤ g.2.2.2 r k ∧ g.2.2.2 r k ≤ 11
theorem mGr.wf1 {R : xR} (h : mGr R) : gWf1 (gM R) := ⟨h.wf, fun r h0 h1 => ⟨h.2.2.1 r h0 h1, fun k h2 h3 => h.2.2.2.1 r k h0 h1 h2 h3⟩⟩
theorem gFs_rng {g : xGr} (hw : gWf1 g) {r q t t' : Int} (h0 : 0 ≤ r) (h1 : r ≤ 10) (hq : 0 ≤ q) (ht : 0 ≤ t ∧ t < 7) (h : gFs g r q t t') : 0 ≤ t' ∧ t' < 7 := by
  rcases h with ⟨j, d1, d2, -, d4⟩ | ⟨-, h⟩
  · rcases d4 with ⟨d4, d5⟩ | ⟨-, d5⟩
    · have := (hw.2 r h0 h1).2 j (by omega) d2
      omega
    · have := gFi_rng hw.1 d5
      omega
  · rw [h]; exact ht
/-- R1: a step on the way from R's state s to its closure -/
def mCl (R R1 : xR) (s : Int) : Prop := (∀ a b, a ≠ 44 → R1 a b = R a b) ∧ (∀ i, (i < 55 * s ∨ 55 * s + 55 ≤ i) → R1 44 i = R 44 i) ∧ (∀ i, 0 ≤ i → i < 2310 → s7 (R1 44 i)) ∧ (∀ r p t, mIt R s r p t → mIt R1 s r p t) ∧ (∀ r p t, mIt R1 s r p t → gCl (gM R) (mIt R s) r p t)
theorem mCl.rf {R : xR} {s : Int} (h7 : ∀ i, 0 ≤ i → i < 2310 → s7 (R 44 i)) : mCl R R s := ⟨fun _ _ _ => rfl, fun _ _ => rfl, h7, fun _ _ _ h => h, fun _ _ _ h => gCl.sub h⟩
/-- at rule r, place p nothing is wanting -/
def mCa (R : xR) (s r p : Int) : Prop := ∀ t, 0 ≤ t → t < 7 → hb (R 44 (55 * s + 5 * r + p)) t → p < (gM R).2.2.1 r → ∀ r', gUs (gM R) r' → (gM R).2.2.2 r p = 6 + (gM R).2.1 r' → ∀ t', 0 ≤ t' → t' < 7 → gFs (gM R) r (p + 1) t t' → hb (R 44 (55 * s + 5 * r')) t'
theorem mPr.moved {R R1 : xR} (h : mPr R) (e : ∀ a b, a ≠ 44 → R1 a b = R a b) : mPr R1 := by
  unfold mPr
  rw [gM_eq e, e 30 3 (by decide)]
  refine ⟨fun r h0 h1 => ?_, fun x h0 h1 => ?_, fun x h0 h1 => ?_, fun x t h0 h1 h2 h3 => ?_⟩
  · rw [e 38 r (by decide)]; exact h.1 r h0 h1
  · rw [e 40 x (by decide)]; exact h.2.1 x h0 h1
  · rw [e 41 x (by decide)]; exact h.2.2.1 x h0 h1
  · rw [e 41 x (by decide)]; exact h.2.2.2 x t h0 h1 h2 h3
theorem mGr.moved {R R1 : xR} (h : mGr R) (e : ∀ a b, a ≠ 44 → R1 a b = R a b) : mGr R1 := by
  unfold mGr
  rw [e 30 3 (by decide), e 35 10 (by decide), e 36 10 (by decide), e 37 40 (by decide), e 35 0 (by decide)]
  obtain ⟨h1, h2, h3, h4, h5, h6, h7, h8⟩ := h
  refine ⟨h1, fun r a b => by rw [e 35 r (by decide)]; exact h2 r a b, fun r a b => by rw [e 36 r (by decide)]; exact h3 r a b, fun r k a b c d => ?_, h5, h6, h7, fun r a b => by rw [e 36 r (by decide)]; exact h8 r a b⟩
  rw [e 36 r (by decide)] at d
  rw [e 37 _ (by decide)]
  exact h4 r k a b c d
/-- one spread -/
theorem mCl.step {R R2 R3 : xR} {s r p z : Int} (hg : mGr R) (hp : mPr R) (h : mCl R R2 s) (hs : 0 ≤ s ∧ s ≤ 41) (h0 : 0 ≤ r ∧ r ≤ 10) (h1 : 0 ≤ p ∧ p ≤ 4) (hset : R2 44 (55 * s + 5 * r + p) ≠ 0) (hlen : p < R2 36 r) (hx : 6 ≤ R2 37 (4 * r + p))
    (hsp : SP R2 R3 s (R2 37 (4 * r + p) - 6) (bgs R2 (R2 44 (55 * s + 5 * r + p)) (4 * r + R2 36 r - (4 * r + (p + 1))).toNat (4 * r + (p + 1))) (R2 30 3) z) :
    mCl R R3 s ∧ (∀ i, R2 44 i ≤ R3 44 i) ∧ ((z = 0 ∧ (∀ i, R3 44 i = R2 44 i) ∧ mCa R2 s r p) ∨ (z = 1 ∧ ∃ i, 0 ≤ i ∧ i < 55 ∧ R2 44 (55 * s + i) < R3 44 (55 * s + i))) := by
  have hset' := hset
  obtain ⟨c1, c2, c3, c4, c5⟩ := h
  have hg2 := hg.moved c1
  have hp2 := hp.moved c1
  have eg := gM_eq c1
  have h7 : s7 (R2 44 (55 * s + 5 * r + p)) := c3 _ (by omega) (by omega)
  have hsy := hg2.2.2.2.1 r p h0.1 h0.2 h1.1 hlen
  have hln := hg2.2.2.1 r h0.1 h0.2
  have hbits : ∀ t', 0 ≤ t' → t' < 7 → (hb (bgs R2 (R2 44 (55 * s + 5 * r + p)) (4 * r + R2 36 r - (4 * r + (p + 1))).toNat (4 * r + (p + 1))) t' ↔ ∃ t, (0 ≤ t ∧ t < 7) ∧ hb (R2 44 (55 * s + 5 * r + p)) t ∧ gFs (gM R2) r (p + 1) t t') :=
    bgs_bits hg2 hp2 h0.1 h0.2 h7 hset' _ (p + 1) (by omega) (by omega)
  have hb7 : s7 (bgs R2 (R2 44 (55 * s + 5 * r + p)) (4 * r + R2 36 r - (4 * r + (p + 1))).toNat (4 * r + (p + 1))) := by
    have hok := hg2.ok hp2 h0.1 h0.2
    exact bgs_s7 h7 _ _ (fun j d1 d2 => hok.2.2.1 j (by omega) (by omega)) (fun x d1 d2 => (hok.2.2.2 x d1 d2).2)
  generalize bgs R2 (R2 44 (55 * s + 5 * r + p)) (4 * r + R2 36 r - (4 * r + (p + 1))).toNat (4 * r + (p + 1)) = set at hsp hbits hb7
  obtain ⟨s1, s2, s3, s4⟩ := hsp
  -- each place: kept, or grown by set
  have hcase : ∀ i, R3 44 i = R2 44 i ∨ ∃ r', (0 ≤ r' ∧ r' < R2 30 3) ∧ spq R2 (R2 37 (4 * r + p) - 6) r' ∧ i = 55 * s + 5 * r' ∧ R3 44 i = ior (R2 44 i) set := by
    intro i
    by_cases e : ∃ r', (0 ≤ r' ∧ r' < R2 30 3) ∧ spq R2 (R2 37 (4 * r + p) - 6) r' ∧ i = 55 * s + 5 * r'
    · obtain ⟨r', e1, e2, e3⟩ := e
      exact Or.inr ⟨r', e1, e2, e3, by rw [e3]; exact s3 r' e1.1 e1.2 e2⟩
    · exact Or.inl (s2 i (fun r' a b c d => e ⟨r', ⟨a, b⟩, c, d⟩))
  have hn := hg2.1
  have hus : ∀ r', 0 ≤ r' → r' < R2 30 3 → (R2 38 r' ≠ 0 ↔ gUs (gM R2) r') := fun r' a b => by rw [hp2.1 r' a b]; exact zc_ne
  have hle : ∀ i, R2 44 i ≤ R3 44 i := by
    intro i
    rcases hcase i with e | ⟨r', e1, -, e3, e4⟩
    · rw [e]; exact Int.le_refl _
    · rw [e4]
      have := c3 i (by omega) (by omega)
      exact ior_ge this.1
  have hcl : mCl R R3 s := by
    refine ⟨fun a b hab => (s1 a b hab).trans (c1 a b hab), fun i hi => ?_, fun i d1 d2 => ?_, fun r' p' t d => ?_, fun r' p' t d => ?_⟩
    · rcases hcase i with e | ⟨r', e1, -, e3, -⟩
      · rw [e]; exact c2 i hi
      · omega
    · rcases hcase i with e | ⟨r', -, -, -, e4⟩
      · rw [e]; exact c3 i d1 d2
      · rw [e4]; exact ior_s7 (c3 i d1 d2) hb7
    · obtain ⟨f1, f2, f3, f4⟩ := c4 r' p' t d
      refine ⟨f1, f2, f3, ?_⟩
      rcases hcase (55 * s + 5 * r' + p') with e | ⟨r'', -, -, -, e4⟩
      · rw [e]; exact f4
      · rw [e4, hb_ior]; exact Or.inl f4
    · obtain ⟨f1, f2, f3, f4⟩ := d
      rcases hcase (55 * s + 5 * r' + p') with e | ⟨r'', e1, e2, e3, e4⟩
      · rw [e] at f4; exact c5 r' p' t ⟨f1, f2, f3, f4⟩
      · rw [e4, hb_ior] at f4
        rcases f4 with f4 | f4
        · exact c5 r' p' t ⟨f1, f2, f3, f4⟩
        · obtain ⟨t0, g1, g2, g3⟩ := (hbits t f3.1 f3.2).mp f4
          have hrr : r' = r'' := by omega
          have hpp : p' = 0 := by omega
          subst hrr
          subst hpp
          have hit : gCl (gM R) (mIt R s) r p t0 := c5 r p t0 ⟨h0, h1, g1, g2⟩
          rw [← eg] at hit ⊢
          refine gCl.closed r p t0 hit hlen r' ((hus r' e1.1 e1.2).mp e2.1) ?_ t g3
          show R2 37 (4 * r + p) = 6 + R2 35 r'
          have := e2.2
          omega
  refine ⟨hcl, hle, ?_⟩
  rcases s4 with ⟨z0, e0⟩ | ⟨z1, r', g1, g2, g3, g4⟩
  · refine Or.inl ⟨z0, e0, fun t d1 d2 d3 _ r' d5 d6 t' d7 d8 d9 => ?_⟩
    have hr' : 0 ≤ r' ∧ r' < R2 30 3 := ⟨d5.1, d5.2.1⟩
    have hq : spq R2 (R2 37 (4 * r + p) - 6) r' := ⟨(hus r' hr'.1 hr'.2).mpr d5, by have : R2 37 (4 * r + p) = 6 + R2 35 r' := d6; omega⟩
    have h3 := s3 r' hr'.1 hr'.2 hq
    rw [e0] at h3
    rw [h3, hb_ior]
    exact Or.inr ((hbits t' d7 d8).mpr ⟨t, ⟨d1, d2⟩, d3, d9⟩)
  · refine Or.inr ⟨z1, 5 * r', by omega, by omega, ?_⟩
    have := hle (55 * s + 5 * r')
    omega
/-- a pass: from R1, now R2, before rule r, place p -/
def mPa (R R1 R2 : xR) (s r p more : Int) : Prop := mCl R R2 s ∧ (∀ i, R1 44 i ≤ R2 44 i) ∧ ((more = 0 ∧ (∀ i, R2 44 i = R1 44 i) ∧ ∀ r' p', 0 ≤ r' → 0 ≤ p' → p' ≤ 4 → (r' < r ∨ (r' = r ∧ p' < p)) → mCa R1 s r' p') ∨ (more = 1 ∧ ∃ i, 0 ≤ i ∧ i < 55 ∧ R1 44 (55 * s + i) < R2 44 (55 * s + i)))
theorem mPa.zero {R R1 : xR} {s : Int} (h : mCl R R1 s) : mPa R R1 R1 s 0 0 0 := ⟨h, fun _ => Int.le_refl _, Or.inl ⟨rfl, fun _ => rfl, fun r' p' a b c d => by omega⟩⟩
theorem mPa.m01 {R R1 R2 : xR} {s r p more : Int} (h : mPa R R1 R2 s r p more) : more = 0 ∨ more = 1 := h.2.2.imp (fun q => q.1) (fun q => q.1)
theorem mCa_eq {R1 R2 : xR} {s r p : Int} (e : ∀ a b, a ≠ 44 → R2 a b = R1 a b) (e4 : ∀ i, R2 44 i = R1 44 i) (h : mCa R2 s r p) : mCa R1 s r p := by
  have : R2 = R1 := by
    funext a b
    by_cases ha : a = 44
    · rw [ha]; exact e4 b
    · exact e a b ha
  rw [← this]; exact h
theorem mPa.skip {R R1 R2 : xR} {s r p more : Int} (h : mPa R R1 R2 s r p more) (h1 : mCl R R1 s) (hca : mCa R2 s r p) : mPa R R1 R2 s r (p + 1) more := by
  obtain ⟨a1, a2, a3⟩ := h
  refine ⟨a1, a2, a3.imp (fun q => ⟨q.1, q.2.1, fun r' p' b c c2 d => ?_⟩) id⟩
  by_cases e : r' = r ∧ p' = p
  · rw [e.1, e.2]
    exact mCa_eq (fun a b hab => (a1.1 a b hab).trans (h1.1 a b hab).symm) q.2.1 hca
  · exact q.2.2 r' p' b c c2 (by omega)
theorem mPa.spr {R R1 R2 R3 : xR} {s r p more z more' : Int} (h : mPa R R1 R2 s r p more) (h1 : mCl R R1 s)
    (hst : mCl R R3 s ∧ (∀ i, R2 44 i ≤ R3 44 i) ∧ ((z = 0 ∧ (∀ i, R3 44 i = R2 44 i) ∧ mCa R2 s r p) ∨ (z = 1 ∧ ∃ i, 0 ≤ i ∧ i < 55 ∧ R2 44 (55 * s + i) < R3 44 (55 * s + i)))) (hm : (more' = 0 ∧ z = 0 ∧ more = 0) ∨ (more' = 1 ∧ (z ≠ 0 ∨ more ≠ 0))) : mPa R R1 R3 s r (p + 1) more' := by
  obtain ⟨a1, a2, a3⟩ := h
  obtain ⟨b1, b2, b3⟩ := hst
  refine ⟨b1, fun i => Int.le_trans (a2 i) (b2 i), ?_⟩
  rcases hm with ⟨m1, m2, m3⟩ | ⟨m1, m2⟩
  · rcases a3 with ⟨-, a4, a5⟩ | ⟨a4, -⟩
    · rcases b3 with ⟨-, b4, b5⟩ | ⟨b4, -⟩
      · refine Or.inl ⟨m1, fun i => (b4 i).trans (a4 i), fun r' p' b c c2 d => ?_⟩
        by_cases e : r' = r ∧ p' = p
        · rw [e.1, e.2]
          exact mCa_eq (fun a b hab => (a1.1 a b hab).trans (h1.1 a b hab).symm) a4 b5
        · exact a5 r' p' b c c2 (by omega)
      · omega
    · omega
  · refine Or.inr ⟨m1, ?_⟩
    rcases b3 with ⟨b4, -, -⟩ | ⟨-, i, b5, b6, b7⟩
    · rcases a3 with ⟨a4, -, -⟩ | ⟨-, i, a5, a6, a7⟩
      · omega
      · exact ⟨i, a5, a6, by have := b2 (55 * s + i); omega⟩
    · exact ⟨i, b5, b6, by have := a2 (55 * s + i); omega⟩
theorem mPa.row {R R1 R2 : xR} {s r more : Int} (h : mPa R R1 R2 s r 5 more) : mPa R R1 R2 s (r + 1) 0 more := by
  obtain ⟨a1, a2, a3⟩ := h
  exact ⟨a1, a2, a3.imp (fun q => ⟨q.1, q.2.1, fun r' p' b c c2 d => q.2.2 r' p' b c c2 (by omega)⟩) id⟩
/-- behind the last pass -/
theorem mPa.done {R R1 R2 : xR} {s : Int} (hg : mGr R) (hs : 0 ≤ s) (h : mPa R R1 R2 s 11 0 0) (h1 : mCl R R1 s) : mIt R2 s = gCl (gM R) (mIt R s) := by
  obtain ⟨a1, a2, ⟨-, a4, a5⟩ | ⟨a4, -⟩⟩ := h
  · refine gCl.eq a1.2.2.2.1 a1.2.2.2.2 (fun r p t hi hp r' hu hx t' hf => ?_)
    obtain ⟨b1, b2, b3, b4⟩ := hi
    have ht' := gFs_rng hg.wf1 b1.1 b1.2 (by omega) b3 hf
    have hca := a5 r p b1.1 b2.1 b2.2 (by omega)
    unfold mCa at hca
    rw [gM_eq h1.1] at hca
    rw [a4] at b4
    have h6 := hca t b3.1 b3.2 b4 hp r' hu hx t' ht'.1 ht'.2 hf
    refine ⟨⟨hu.1, ?_⟩, by omega, ht', ?_⟩
    · have h10 := hg.1.2
      have : r' < R 30 3 := hu.2.1
      omega
    · rw [show 55 * s + 5 * r' + 0 = 55 * s + 5 * r' by omega, a4]; exact h6
  · omega
theorem mCa_set0 {R : xR} {s r p : Int} (h : R 44 (55 * s + 5 * r + p) = 0) : mCa R s r p := fun t _ _ h3 => by rw [h] at h3; exact absurd h3 (hb_0 t)
theorem mCa_end {R : xR} {s r p : Int} (h : ¬ p < R 36 r) : mCa R s r p := fun t _ _ _ h4 => absurd h4 h
theorem mCa_let {R : xR} {s r p : Int} (hg : mGr R) (h : R 37 (4 * r + p) < 6) : mCa R s r p := by
  intro t _ _ _ _ r' hu hx
  have := hg.2.1 r' hu.1 hu.2.1
  have h2 : R 37 (4 * r + p) = 6 + R 35 r' := hx
  omega
theorem mPa.want {R R1 R2 : xR} {s r p more : Int} (hs : 0 ≤ s ∧ s ≤ 41) (h : mPa R R1 R2 s r p more) (hm : more ≠ 0) : mWant R2 s < mWant R1 s := by
  obtain ⟨a1, a2, ⟨a3, -⟩ | ⟨-, a3⟩⟩ := h
  · exact absurd a3 hm
  · exact mWant_lt (fun i b c => a1.2.2.1 _ (by omega) (by omega)) a2 a3
