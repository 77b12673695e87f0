/-! pure rows: the desk's grow -/
theorem xor7N : ∀ b : Nat, b < 128 → iI (b : Int) ^^^ iI (-1) = iI (-1 - (b : Int)) := by decide +kernel
theorem andn7N : ∀ a : Nat, a < 128 → ∀ b : Nat, b < 128 → iI (a : Int) &&& iI (-1 - (b : Int)) = iI ((a &&& (127 - b) : Nat) : Int) := by decide +kernel
theorem not7N : ∀ b : Nat, b < 128 → ∀ t : Nat, t < 7 → (127 - b).testBit t = !(b.testBit t) := by decide +kernel
theorem iI_xm1 {b : Int} (h : s7 b) : iI b ^^^ iI (-1) = iI (-1 - b) := by
  obtain ⟨n, rfl⟩ := Int.eq_ofNat_of_zero_le h.1
  exact xor7N n (by have := h.2; omega)
/-- what a has and b has not -/
def idif (a b : Int) : Int := ((a.toNat &&& (127 - b.toNat) : Nat) : Int)
theorem iI_idif {a b : Int} (ha : s7 a) (hb : s7 b) : iI a &&& iI (-1 - b) = iI (idif a b) := by
  obtain ⟨n, rfl⟩ := Int.eq_ofNat_of_zero_le ha.1
  obtain ⟨m, rfl⟩ := Int.eq_ofNat_of_zero_le hb.1
  exact andn7N n (by have := ha.2; omega) m (by have := hb.2; omega)
theorem idif_s7 {a b : Int} (ha : s7 a) : s7 (idif a b) := by
  unfold s7 idif
  have h1 : a.toNat &&& (127 - b.toNat) ≤ a.toNat := Nat.and_le_left
  have h2 := ha.1
  have h3 := ha.2
  omega
theorem hb_idif {a b t : Int} (hb' : s7 b) (ht : 0 ≤ t ∧ t < 7) : hb (idif a b) t ↔ hb a t ∧ ¬ hb b t := by
  unfold hb idif
  have h3 := hb'.1
  have h4 := hb'.2
  rw [Int.toNat_natCast, Nat.testBit_and, not7N b.toNat (by omega) t.toNat (by omega)]
  cases a.toNat.testBit t.toNat <;> cases b.toNat.testBit t.toNat <;> simp
theorem idif_0 {a b : Int} (ha : s7 a) (hb' : s7 b) : idif a b = 0 ↔ ∀ t, 0 ≤ t → t < 7 → hb a t → hb b t := by
  constructor
  · intro h t t0 t1 h1
    by_cases c : hb b t
    · exact c
    · have := (hb_idif (a := a) hb' ⟨t0, t1⟩).mpr ⟨h1, c⟩
      rw [h] at this
      exact absurd this (hb_0 t)
  · intro h
    by_cases c : idif a b = 0
    · exact c
    · obtain ⟨t, t0, t1, t2⟩ := (s7_ne0 (idif_s7 ha)).mp c
      have := (hb_idif hb' ⟨t0, t1⟩).mp t2
      exact absurd (h t t0 t1 this.1) this.2
/-- rule r: nothing is wanting -/
def dC (g : xGr) (R : xR) (r : Int) : Prop := (∀ j, 0 ≤ j → j < g.2.2.1 r → dL R (g.2.2.2 r) j) → R 12 (g.2.1 r) ≠ 0 ∧ ((∀ j, 0 ≤ j → j < g.2.2.1 r → dE R (g.2.2.2 r) j) → R 13 (g.2.1 r) ≠ 0) ∧ ∀ t, 0 ≤ t → dF R (g.2.2.2 r) 0 (g.2.2.1 r) t → hb (R 14 (g.2.1 r)) t
/-- what the desk has noted is so -/
def dS (g : xGr) (R : xR) : Prop := dNm R ∧ ∀ x, 0 ≤ x → x ≤ 5 → (R 12 x ≠ 0 → gCm g x) ∧ (R 13 x ≠ 0 → gEm g x) ∧ ∀ t, 0 ≤ t → hb (R 14 x) t → gFi g x t
def dK (R R1 : xR) : Prop := ∀ a, a ≠ 12 → a ≠ 13 → a ≠ 14 → R1 a = R a
def dSm (R R1 : xR) : Prop := ∀ x, 0 ≤ x → x ≤ 5 → R1 12 x = R 12 x ∧ R1 13 x = R 13 x ∧ R1 14 x = R 14 x
def dLe (R R1 : xR) : Prop := ∀ x, 0 ≤ x → x ≤ 5 → R 12 x ≤ R1 12 x ∧ R 13 x ≤ R1 13 x ∧ R 14 x ≤ R1 14 x
def dGt (R R1 : xR) : Prop := ∃ x, (0 ≤ x ∧ x ≤ 5) ∧ (R 12 x < R1 12 x ∨ R 13 x < R1 13 x ∨ R 14 x < R1 14 x)
/-- a pass: from R1, now R2, before rule r -/
def dGp (g : xGr) (R R1 R2 : xR) (r more : Int) : Prop := dK R R2 ∧ dS g R2 ∧ dLe R1 R2 ∧ ((more = 0 ∧ dSm R1 R2 ∧ ∀ r', 0 ≤ r' → r' < r → dC g R1 r') ∨ (more = 1 ∧ dGt R1 R2))
theorem dGp.m01 {g : xGr} {R R1 R2 : xR} {r more : Int} (h : dGp g R R1 R2 r more) : more = 0 ∨ more = 1 := h.2.2.2.imp (fun q => q.1) (fun q => q.1)
theorem dGp.zero {g : xGr} {R R1 : xR} (h : dK R R1) (h1 : dS g R1) : dGp g R R1 R1 0 0 := ⟨h, h1, fun x _ _ => ⟨Int.le_refl _, Int.le_refl _, Int.le_refl _⟩, Or.inl ⟨rfl, fun x _ _ => ⟨rfl, rfl, rfl⟩, fun r a b => by omega⟩⟩
theorem dSm.L {R R1 : xR} (h : dSm R R1) {s : Int → Int} {i : Int} (hs : 0 ≤ s i ∧ s i ≤ 11) : dL R1 s i ↔ dL R s i := by
  unfold dL
  by_cases c : s i < 6
  · exact ⟨fun _ => Or.inl c, fun _ => Or.inl c⟩
  · rw [(h (s i - 6) (by omega) (by omega)).1]
theorem dSm.E {R R1 : xR} (h : dSm R R1) {s : Int → Int} {i : Int} (hs : 0 ≤ s i ∧ s i ≤ 11) : dE R1 s i ↔ dE R s i := by
  unfold dE
  constructor
  · intro q; have := (h (s i - 6) (by omega) (by omega)).2.1; exact ⟨q.1, by rw [← this]; exact q.2⟩
  · intro q; have := (h (s i - 6) (by omega) (by omega)).2.1; exact ⟨q.1, by rw [this]; exact q.2⟩
theorem dF_mono {R R1 : xR} {s : Int → Int} {fr n t : Int} (h : dLe R R1) (hN : dNm R) (hN1 : dNm R1) (h0 : 0 ≤ fr) (hb' : ∀ x, 0 ≤ x → x ≤ 5 → ∀ t, hb (R 14 x) t → hb (R1 14 x) t) (hs : ∀ i, 0 ≤ i → i < n → 0 ≤ s i ∧ s i ≤ 11) (hF : dF R s fr n t) : dF R1 s fr n t := by
  obtain ⟨j, a, b, c, d⟩ := hF
  have hE : ∀ i, 0 ≤ i → i < n → dE R s i → dE R1 s i := by
    intro i i1 i2 q
    have h1 := h (s i - 6) (by have := q.1; omega) (by have := hs i i1 i2; omega)
    have h2 := hN (s i - 6) (by have := q.1; omega) (by have := hs i i1 i2; omega)
    exact ⟨q.1, by have := q.2; omega⟩
  refine ⟨j, a, b, fun i i1 i2 => hE i (by omega) (by omega) (c i i1 i2), d.imp id (fun q => ⟨q.1, hb' _ (by omega) (by have := hs j (by omega) b; omega) t q.2⟩)⟩
theorem dSm.F {R R1 : xR} (h : dSm R R1) {s : Int → Int} {fr n t : Int} (h0 : 0 ≤ fr) (hs : ∀ i, 0 ≤ i → i < n → 0 ≤ s i ∧ s i ≤ 11) : dF R1 s fr n t ↔ dF R s fr n t := by
  constructor
  · rintro ⟨j, a, b, c, d⟩
    refine ⟨j, a, b, fun i i1 i2 => (h.E (hs i (by omega) (by omega))).mp (c i i1 i2), d.imp id (fun q => ⟨q.1, ?_⟩)⟩
    rw [← (h (s j - 6) (by omega) (by have := hs j (by omega) b; omega)).2.2]; exact q.2
  · rintro ⟨j, a, b, c, d⟩
    refine ⟨j, a, b, fun i i1 i2 => (h.E (hs i (by omega) (by omega))).mpr (c i i1 i2), d.imp id (fun q => ⟨q.1, ?_⟩)⟩
    rw [(h (s j - 6) (by omega) (by have := hs j (by omega) b; omega)).2.2]; exact q.2
theorem dSm.C {g : xGr} {R R1 : xR} {r : Int} (hw : gWf g) (hr : 0 ≤ r ∧ r < g.1) (h : dSm R R1) (hc : dC g R1 r) : dC g R r := by
  have hg := hw.2.2 r hr.1 hr.2
  intro hl
  obtain ⟨c1, c2, c3⟩ := hc (fun j a b => (h.L (hg.2.2 j a b)).mpr (hl j a b))
  obtain ⟨e1, e2, e3⟩ := h (g.2.1 r) hg.1.1 hg.1.2
  refine ⟨by rw [← e1]; exact c1, fun q => by rw [← e2]; exact c2 (fun j a b => (h.E (hg.2.2 j a b)).mpr (q j a b)), fun t t0 q => ?_⟩
  rw [← e3]
  exact c3 t t0 ((h.F (Int.le_refl _) (fun i a b => hg.2.2 i a b)).mpr q)
/-- rule r does not live yet -/
theorem dGp.no {g : xGr} {R R1 R2 : xR} {r more : Int} (hw : gWf g) (hr : 0 ≤ r ∧ r < g.1) (h : dGp g R R1 R2 r more) (hn : ¬ ∀ j, 0 ≤ j → j < g.2.2.1 r → dL R2 (g.2.2.2 r) j) : dGp g R R1 R2 (r + 1) more := by
  obtain ⟨a1, a2, a3, a4⟩ := h
  refine ⟨a1, a2, a3, a4.imp (fun q => ⟨q.1, q.2.1, fun r' b c => ?_⟩) id⟩
  by_cases e : r' = r
  · rw [e]
    exact q.2.1.C hw hr (fun hl => absurd hl hn)
  · exact q.2.2 r' b (by omega)
/-- rule r brings nothing new -/
def dNo (g : xGr) (R2 : xR) (r : Int) : Prop := R2 12 (g.2.1 r) ≠ 0 ∧ ((∀ j, 0 ≤ j → j < g.2.2.1 r → dE R2 (g.2.2.2 r) j) → R2 13 (g.2.1 r) ≠ 0) ∧ ∀ t, 0 ≤ t → dF R2 (g.2.2.2 r) 0 (g.2.2.1 r) t → hb (R2 14 (g.2.1 r)) t
/-- rule r brings something new -/
def dYe (g : xGr) (R2 : xR) (r : Int) : Prop := R2 12 (g.2.1 r) = 0 ∨ (R2 13 (g.2.1 r) = 0 ∧ ∀ j, 0 ≤ j → j < g.2.2.1 r → dE R2 (g.2.2.2 r) j) ∨ ∃ t, 0 ≤ t ∧ dF R2 (g.2.2.2 r) 0 (g.2.2.1 r) t ∧ ¬ hb (R2 14 (g.2.1 r)) t
/-- rule r lives: what is noted of it -/
theorem dGp.yes {g : xGr} {R R1 R2 R3 R4 R5 : xR} {r more more' fz e f : Int} (hw : gWf g) (hr : 0 ≤ r ∧ r < g.1) (h : dGp g R R1 R2 r more) (hl : ∀ j, 0 ≤ j → j < g.2.2.1 r → dL R2 (g.2.2.2 r) j)
    (hf0 : fz = 0 → dNo g R2 r) (hf1 : fz ≠ 0 → dYe g R2 r)
    (e3 : R3 = xup R2 12 (g.2.1 r) 1) (he : e = zc (R2 13 (g.2.1 r) ≠ 0 ∨ ∀ j, 0 ≤ j → j < g.2.2.1 r → dE R2 (g.2.2.2 r) j)) (e4 : R4 = xup R3 13 (g.2.1 r) e) (hf7 : s7 f) (hfb : ∀ t, 0 ≤ t → (hb f t ↔ dF R4 (g.2.2.2 r) 0 (g.2.2.1 r) t)) (e5 : R5 = xup R4 14 (g.2.1 r) (ior (R2 14 (g.2.1 r)) f))
    (hm : (more' = 0 ∧ more = 0 ∧ fz = 0) ∨ (more' = 1 ∧ (more ≠ 0 ∨ fz ≠ 0))) : dGp g R R1 R5 (r + 1) more' := by
  obtain ⟨a1, a2, a3, a4⟩ := h
  have hg := hw.2.2 r hr.1 hr.2
  obtain ⟨n1, n2⟩ := a2
  have hx := n1 (g.2.1 r) hg.1.1 hg.1.2
  have hzo := zc_or (R2 13 (g.2.1 r) ≠ 0 ∨ ∀ j, 0 ≤ j → j < g.2.2.1 r → dE R2 (g.2.2.2 r) j)
  rw [← he] at hzo
  have v12 : ∀ x, R5 12 x = if x = g.2.1 r then 1 else R2 12 x := by
    intro x
    rw [xr_o e5 (by decide), xr_o e4 (by decide)]
    by_cases c : x = g.2.1 r
    · rw [if_pos c, xr_e e3 c]
    · rw [if_neg c, xr_d e3 c]
  have v13 : ∀ x, R4 13 x = if x = g.2.1 r then e else R2 13 x := by
    intro x
    by_cases c : x = g.2.1 r
    · rw [if_pos c, xr_e e4 c]
    · rw [if_neg c, xr_d e4 c, xr_o e3 (by decide)]
  have v13' : ∀ x, R5 13 x = if x = g.2.1 r then e else R2 13 x := fun x => by rw [xr_o e5 (by decide), v13]
  have v14 : ∀ x, R5 14 x = if x = g.2.1 r then ior (R2 14 (g.2.1 r)) f else R2 14 x := by
    intro x
    by_cases c : x = g.2.1 r
    · rw [if_pos c, xr_e e5 c]
    · rw [if_neg c, xr_d e5 c, xr_o e4 (by decide), xr_o e3 (by decide)]
  have w14 : ∀ x, R4 14 x = R2 14 x := fun x => by rw [xr_o e4 (by decide), xr_o e3 (by decide)]
  have w12 : ∀ x, R4 12 x = R3 12 x := fun x => by rw [xr_o e4 (by decide)]
  have hus : gUs g r := ⟨hr.1, hr.2, fun k k0 k1 => by
    by_cases c : g.2.2.2 r k < 6
    · exact Or.inl c
    · have h1 := hg.2.2 k k0 k1
      exact Or.inr ((n2 _ (by omega) (by omega)).1 ((hl k k0 k1).resolve_left c))⟩
  have hgE : e ≠ 0 → gEm g (g.2.1 r) := by
    intro q
    rw [he] at q
    rcases zc_ne.mp q with q | q
    · exact (n2 _ hg.1.1 hg.1.2).2.1 q
    · exact gEm.mk hus (fun k k0 k1 => ⟨(q k k0 k1).1, (n2 _ (by have := (q k k0 k1).1; omega) (by have := hg.2.2 k k0 k1; omega)).2.1 (q k k0 k1).2⟩)
  have hE4 : ∀ j, 0 ≤ j → j < g.2.2.1 r → dE R4 (g.2.2.2 r) j → 6 ≤ g.2.2.2 r j ∧ gEm g (g.2.2.2 r j - 6) := by
    intro j j0 j1 q
    refine ⟨q.1, ?_⟩
    have q2 := q.2
    rw [v13] at q2
    by_cases c : g.2.2.2 r j - 6 = g.2.1 r
    · rw [if_pos c] at q2
      rw [c]
      exact hgE q2
    · rw [if_neg c] at q2
      exact (n2 _ (by have := q.1; omega) (by have := hg.2.2 j j0 j1; omega)).2.1 q2
  have hgF : ∀ t, 0 ≤ t → hb f t → gFi g (g.2.1 r) t := by
    intro t t0 q
    obtain ⟨j, b1, b2, b3, b4⟩ := (hfb t t0).mp q
    refine gFi.mk hus b1 b2 (fun k k0 k1 => hE4 k k0 (by omega) (b3 k k0 k1)) (b4.imp id (fun q => ⟨q.1, ?_⟩))
    have q2 := q.2
    rw [w14] at q2
    exact (n2 _ (by have := q.1; omega) (by have := hg.2.2 j b1 b2; omega)).2.2 t t0 q2
  have h14 := ior_s7 hx.2.2 hf7
  have hS : dS g R5 := by
    refine ⟨fun x x0 x1 => ?_, fun x x0 x1 => ?_⟩
    · rw [v12, v13', v14]
      by_cases c : x = g.2.1 r
      · rw [if_pos c, if_pos c, if_pos c]
        exact ⟨Or.inr rfl, hzo, h14⟩
      · rw [if_neg c, if_neg c, if_neg c]
        exact n1 x x0 x1
    · rw [v12, v13', v14]
      by_cases c : x = g.2.1 r
      · rw [if_pos c, if_pos c, if_pos c, c]
        refine ⟨fun _ => gCm.mk hus, hgE, fun t t0 q => ?_⟩
        rcases (hb_ior _ _ _).mp q with q | q
        · exact (n2 _ hg.1.1 hg.1.2).2.2 t t0 q
        · exact hgF t t0 q
      · rw [if_neg c, if_neg c, if_neg c]
        exact n2 x x0 x1
  have he1 : R2 13 (g.2.1 r) ≠ 0 → e = 1 := fun q => by rw [he]; exact zc_t (Or.inl q)
  have hle : dLe R2 R5 := by
    intro x x0 x1
    rw [v12, v13', v14]
    by_cases c : x = g.2.1 r
    · rw [if_pos c, if_pos c, if_pos c, c]
      refine ⟨by omega, ?_, ior_ge hx.2.2.1⟩
      rcases hx.2.1 with q | q
      · omega
      · have := he1 (by omega); omega
    · rw [if_neg c, if_neg c, if_neg c]
      exact ⟨Int.le_refl _, Int.le_refl _, Int.le_refl _⟩
  have hle2 : dLe R1 R5 := fun x x0 x1 => by
    have := a3 x x0 x1
    have := hle x x0 x1
    omega
  refine ⟨fun a q1 q2 q3 => ?_, hS, hle2, ?_⟩
  · rw [← a1 a q1 q2 q3]
    funext b
    rw [xr_o e5 q3, xr_o e4 q2, xr_o e3 q1]
  rcases hm with ⟨m1, m2, m3⟩ | ⟨m1, m2⟩
  · obtain ⟨b1, b2, b3⟩ := hf0 m3
    rcases a4 with ⟨-, c2, c3⟩ | ⟨c1, -⟩
    · have ee : e = R2 13 (g.2.1 r) := by
        rcases hx.2.1 with q | q
        · rw [q, he]
          exact zc_f (fun z => by rcases z with z | z; (exact z q); (exact b2 z q))
        · rw [q]; exact he1 (by omega)
      have hs4 : dSm R2 R4 := by
        intro x x0 x1
        rw [v13, w14, w12]
        refine ⟨?_, ?_, rfl⟩
        · by_cases c : x = g.2.1 r
          · rw [xr_e e3 c, c]; omega
          · rw [xr_d e3 c]
        · by_cases c : x = g.2.1 r
          · rw [if_pos c, c, ee]
          · rw [if_neg c]
      have hi : ior (R2 14 (g.2.1 r)) f = R2 14 (g.2.1 r) := (ior_eq hx.2.2 hf7).mpr (fun t t0 t1 q => b3 t t0 ((hs4.F (Int.le_refl _) (fun i i0 i1 => hg.2.2 i i0 i1)).mp ((hfb t t0).mp q)))
      have hs5 : dSm R2 R5 := by
        intro x x0 x1
        rw [v12, v13', v14]
        by_cases c : x = g.2.1 r
        · rw [if_pos c, if_pos c, if_pos c, c]
          exact ⟨by omega, ee, hi⟩
        · rw [if_neg c, if_neg c, if_neg c]
          exact ⟨rfl, rfl, rfl⟩
      refine Or.inl ⟨m1, fun x x0 x1 => ?_, fun r' r0 r1 => ?_⟩
      · have d1 := hs5 x x0 x1
        have d2 := c2 x x0 x1
        exact ⟨d1.1.trans d2.1, d1.2.1.trans d2.2.1, d1.2.2.trans d2.2.2⟩
      · by_cases c : r' = r
        · rw [c]
          exact c2.C hw hr (fun _ => ⟨b1, b2, b3⟩)
        · exact c3 r' r0 (by omega)
    · omega
  · refine Or.inr ⟨m1, ?_⟩
    rcases m2 with m2 | m2
    · rcases a4 with ⟨c1, -⟩ | ⟨-, x, x0, x1⟩
      · omega
      · refine ⟨x, x0, ?_⟩
        have := hle x x0.1 x0.2
        omega
    · have h0 := a3 (g.2.1 r) hg.1.1 hg.1.2
      refine ⟨g.2.1 r, hg.1, ?_⟩
      rw [v12, v13', v14, if_pos rfl, if_pos rfl, if_pos rfl]
      rcases hf1 m2 with q | ⟨q1, q2⟩ | ⟨t, t0, q1, q2⟩
      · exact Or.inl (by omega)
      · have : e = 1 := by rw [he]; exact zc_t (Or.inr q2)
        exact Or.inr (Or.inl (by omega))
      · have hN4 : dNm R4 := by
          intro x x0 x1
          rw [v13, w14, w12]
          have h1 := n1 x x0 x1
          refine ⟨?_, ?_, h1.2.2⟩
          · by_cases c : x = g.2.1 r
            · rw [xr_e e3 c]; exact Or.inr rfl
            · rw [xr_d e3 c]; exact h1.1
          · by_cases c : x = g.2.1 r
            · rw [if_pos c]; exact hzo
            · rw [if_neg c]; exact h1.2.1
        have hle4 : dLe R2 R4 := by
          intro x x0 x1
          have h1 := hle x x0 x1
          rw [v12, v13'] at h1
          rw [v13, w14, w12]
          refine ⟨?_, h1.2.1, Int.le_refl _⟩
          by_cases c : x = g.2.1 r
          · rw [xr_e e3 c]; rw [if_pos c] at h1; exact h1.1
          · rw [xr_d e3 c]; exact Int.le_refl _
        have hfF : hb f t := (hfb t t0).mpr (dF_mono hle4 n1 hN4 (Int.le_refl _) (fun x x0 x1 t q => by rw [w14]; exact q) (fun i i0 i1 => hg.2.2 i i0 i1) q1)
        have hge : R2 14 (g.2.1 r) ≤ ior (R2 14 (g.2.1 r)) f := ior_ge hx.2.2.1
        have hne : R2 14 (g.2.1 r) ≠ ior (R2 14 (g.2.1 r)) f := fun q => q2 (by rw [q]; exact (hb_ior _ _ _).mpr (Or.inr hfF))
        exact Or.inr (Or.inr (by omega))
def dW (R : xR) : Nat := (sumF (fun i => (1 - R 12 i) + (1 - R 13 i) + (127 - R 14 i)) 6).toNat
theorem dGp.meas {g : xGr} {R R1 R2 : xR} {r more : Int} (h : dGp g R R1 R2 r more) : 2 * dW R2 + more.toNat < 2 * dW R1 + 1 := by
  obtain ⟨-, hS, hle, hc⟩ := h
  have hn : 0 ≤ sumF (fun i => (1 - R2 12 i) + (1 - R2 13 i) + (127 - R2 14 i)) 6 := sumF_0 6 (fun i a b => by
    have := hS.1 i a (by omega)
    have h7 := this.2.2.2
    omega)
  have hm : sumF (fun i => (1 - R2 12 i) + (1 - R2 13 i) + (127 - R2 14 i)) 6 ≤ sumF (fun i => (1 - R1 12 i) + (1 - R1 13 i) + (127 - R1 14 i)) 6 := sumF_le 6 (fun i a b => by have := hle i a (by omega); omega)
  unfold dW
  rcases hc with ⟨m, -⟩ | ⟨m, x, x0, x1⟩
  · rw [m]
    have : (0 : Int).toNat = 0 := rfl
    omega
  · have hlt : sumF (fun i => (1 - R2 12 i) + (1 - R2 13 i) + (127 - R2 14 i)) 6 < sumF (fun i => (1 - R1 12 i) + (1 - R1 13 i) + (127 - R1 14 i)) 6 := sumF_lt 6 (fun i a b => by have := hle i a (by omega); omega) ⟨x, x0.1, by omega, by have := hle x x0.1 x0.2; omega⟩
    rw [m]
    have : (1 : Int).toNat = 1 := rfl
    omega
/-- the desk knows what comes of names -/
def dPr (g : xGr) (R : xR) : Prop := dNm R ∧ ∀ x, 0 ≤ x → x ≤ 5 → R 12 x = zc (gCm g x) ∧ R 13 x = zc (gEm g x) ∧ ∀ t, 0 ≤ t → (hb (R 14 x) t ↔ gFi g x t)
theorem dGp.done {g : xGr} {R R1 R2 : xR} (hw : gWf g) (h : dGp g R R1 R2 g.1 0) : dK R R2 ∧ dPr g R2 := by
  obtain ⟨a1, ⟨n1, n2⟩, a3, ⟨-, c2, c3⟩ | ⟨c1, -⟩⟩ := h
  · have hC : ∀ x, gCm g x → R1 12 x ≠ 0 := fun x hx => hx (fun x => R1 12 x ≠ 0) (fun r r0 r1 q => (c3 r r0 r1 q).1)
    have hL : ∀ r, gUs g r → ∀ j, 0 ≤ j → j < g.2.2.1 r → dL R1 (g.2.2.2 r) j := fun r hu j j0 j1 => (hu.2.2 j j0 j1).imp id (fun q => hC _ q)
    have hE : ∀ x, gEm g x → R1 13 x ≠ 0 := fun x hx => hx (fun x => R1 13 x ≠ 0) (fun r hu q => (c3 r hu.1 hu.2.1 (hL r hu)).2.1 q)
    have hF : ∀ x t, gFi g x t → 0 ≤ t ∧ hb (R1 14 x) t := fun x t hx => hx (fun x t => 0 ≤ t ∧ hb (R1 14 x) t) (fun r j t hu j0 j1 q d => by
      have ht : 0 ≤ t := by
        rcases d with ⟨d1, d2⟩ | ⟨-, d2⟩
        · have := (hw.2.2 r hu.1 hu.2.1).2.2 j j0 j1; omega
        · exact d2.1
      exact ⟨ht, (c3 r hu.1 hu.2.1 (hL r hu)).2.2 t ht ⟨j, j0, j1, fun i i0 i1 => ⟨(q i i0 i1).1, hE _ (q i i0 i1).2⟩, d.imp id (fun z => ⟨z.1, z.2.2⟩)⟩⟩)
    refine ⟨a1, n1, fun x x0 x1 => ?_⟩
    obtain ⟨d1, d2, d3⟩ := c2 x x0 x1
    obtain ⟨s1, s2, s3⟩ := n2 x x0 x1
    obtain ⟨t1, t2, -⟩ := n1 x x0 x1
    refine ⟨?_, ?_, fun t t0 => ⟨s3 t t0, fun q => by rw [d3]; exact (hF x t q).2⟩⟩
    · by_cases c : gCm g x
      · rw [zc_t c]
        have := hC x c
        omega
      · rw [zc_f c]
        by_cases c' : R2 12 x = 0
        · exact c'
        · exact absurd (s1 c') c
    · by_cases c : gEm g x
      · rw [zc_t c]
        have := hE x c
        omega
      · rw [zc_f c]
        by_cases c' : R2 13 x = 0
        · exact c'
        · exact absurd (s2 c') c
  · omega
