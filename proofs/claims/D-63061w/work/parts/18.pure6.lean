/-! pure rows: the model's compile -/
/-- the memory holds an automaton in the making -/
def mAu (R : xR) (a : auT) (c : Int) : Prop := R 30 11 = a.1 ∧ (∀ k, 0 ≤ k → k < a.1 → mIt R k = a.2.1 k) ∧ (∀ i, 0 ≤ i → i < c → R 45 i = a.2.2 i)
/-- nothing but states, follow, next has moved -/
def mKs (R R1 : xR) : Prop := ∀ a b, a ≠ 44 → a ≠ 45 → ¬ (a = 30 ∧ b = 11) → R1 a b = R a b
theorem mKs.gM {R R1 : xR} (h : mKs R R1) : gM R1 = gM R := by
  unfold Jvm.Pilot.CRepairDeskLaw_law_r8657_4e7fad.gM
  have e1 : R1 30 3 = R 30 3 := h 30 3 (by decide) (by decide) (by decide)
  have e2 : R1 35 = R 35 := funext (fun b => h 35 b (by decide) (by decide) (by omega))
  have e3 : R1 36 = R 36 := funext (fun b => h 36 b (by decide) (by decide) (by omega))
  have e4 : R1 37 = R 37 := funext (fun b => h 37 b (by decide) (by decide) (by omega))
  rw [e1, e2, e3, e4]
theorem mKs.pr {R R1 : xR} (h : mPr R) (e : mKs R R1) : mPr R1 := by
  unfold mPr
  rw [e.gM, e 30 3 (by decide) (by decide) (by decide)]
  refine ⟨fun r h0 h1 => ?_, fun x h0 h1 => ?_, fun x h0 h1 => ?_, fun x t h0 h1 h2 h3 => ?_⟩
  · rw [e 38 r (by decide) (by decide) (by omega)]; exact h.1 r h0 h1
  · rw [e 40 x (by decide) (by decide) (by omega)]; exact h.2.1 x h0 h1
  · rw [e 41 x (by decide) (by decide) (by omega)]; exact h.2.2.1 x h0 h1
  · rw [e 41 x (by decide) (by decide) (by omega)]; exact h.2.2.2 x t h0 h1 h2 h3
theorem mKs.gr {R R1 : xR} (h : mGr R) (e : mKs R R1) : mGr R1 := by
  unfold mGr
  have e36 : ∀ r, R1 36 r = R 36 r := fun r => e 36 r (by decide) (by decide) (by omega)
  have e35 : ∀ r, R1 35 r = R 35 r := fun r => e 35 r (by decide) (by decide) (by omega)
  have e37 : ∀ r, R1 37 r = R 37 r := fun r => e 37 r (by decide) (by decide) (by omega)
  rw [e 30 3 (by decide) (by decide) (by decide), e35 10, e36 10, e37 40, e35 0]
  obtain ⟨h1, h2, h3, h4, h5, h6, h7, h8⟩ := h
  exact ⟨h1, fun r a b => by rw [e35]; exact h2 r a b, fun r a b => by rw [e36]; exact h3 r a b, fun r k a b c d => by rw [e36] at d; rw [e37]; exact h4 r k a b c d, h5, h6, h7, fun r a b => by rw [e36]; exact h8 r a b⟩
theorem mAu.step {R R1 R2 : xR} {a : auT} {g : xGr} {s x z : Int} {c : Nat} (hg : gM R = g) (hr : auR g c a) (h : mAu R a c) (hc : (c : Int) = 12 * s + x) (hs : 0 ≤ s ∧ s < a.1) (hx : 0 ≤ x ∧ x < 12) (h40 : a.1 ≤ 40) (hl : mLdP R R1 a.1 s x z) (e : R2 = xup R1 45 (12 * s + x) z) :
    ∃ b, auR g (c + 1) b ∧ mAu R2 b ((c + 1 : Nat) : Int) ∧ -1 ≤ z ∧ z ≤ 40 := by
  obtain ⟨h1, h2, h3⟩ := h
  obtain ⟨l1, l2, l7, l3⟩ := hl
  have ec : (c : Int) / 12 = s := by omega
  have ec2 : (c : Int) % 12 = x := by omega
  have es : a.2.1 s = mIt R s := (h2 s hs.1 hs.2).symm
  have e44 : R2 44 = R1 44 := funext fun i => xr_o e (by decide)
  have eIt : ∀ k, mIt R2 k = mIt R1 k := fun k => by unfold mIt; rw [e44]
  have eIt2 : ∀ k, 0 ≤ k → k < a.1 → mIt R2 k = a.2.1 k := fun k p q => by rw [eIt, mIt_of l2 ⟨p, q⟩]; exact h2 k p q
  have e45 : ∀ i, 0 ≤ i → i < ((c + 1 : Nat) : Int) → R2 45 i = if i = c then z else a.2.2 i := by
    intro i p q
    by_cases ei : i = c
    · rw [if_pos ei, xr_e e (by omega)]
    · rw [if_neg ei, xr_d e (by omega), l1 45 i (by decide) (by omega)]
      exact h3 i p (by omega)
  have e30 : R2 30 11 = R1 30 11 := xr_o e (by decide)
  rw [hg] at l3
  rcases l3 with ⟨n, z1, n1⟩ | ⟨n, z1, z2, n1⟩ | ⟨n, z1, z2, n1, n2⟩
  · refine ⟨(a.1, a.2.1, up1 a.2.2 c (-1)), ⟨a, hr, by omega, Or.inl ⟨by rw [ec, ec2, es]; exact n, rfl⟩⟩, ⟨e30.trans n1, eIt2, fun i p q => ?_⟩, by omega, by omega⟩
    rw [e45 i p q, z1]; rfl
  · refine ⟨(a.1, a.2.1, up1 a.2.2 c z), ⟨a, hr, by omega, Or.inr (Or.inl ⟨by rw [ec, ec2, es]; exact n, z, z1.1, z1.2, by rw [ec, ec2, es, ← h2 z z1.1 z1.2]; exact z2, rfl⟩)⟩, ⟨e30.trans n1, eIt2, fun i p q => ?_⟩, by omega, by omega⟩
    rw [e45 i p q]; rfl
  · refine ⟨(a.1 + 1, up1 a.2.1 a.1 (gCl g (gGo g (a.2.1 s) x)), up1 a.2.2 c a.1), ⟨a, hr, by omega, Or.inr (Or.inr ⟨by rw [ec, ec2, es]; exact n, fun q p1 p2 => by rw [ec, ec2, es, ← h2 q p1 p2]; exact z1 q p1 p2, by rw [ec, ec2]⟩)⟩, ⟨e30.trans n1, fun k p q => ?_, fun i p q => ?_⟩, by omega, by omega⟩
    · show mIt R2 k = up1 a.2.1 a.1 (gCl g (gGo g (a.2.1 s) x)) k
      by_cases ek : k = a.1
      · rw [ek, up1_s, eIt, n2, es]
      · rw [up1_n _ _ ek]
        have q' : k < a.1 + 1 := q
        exact eIt2 k p (by omega)
    · rw [e45 i p q, z2]; rfl
theorem hb64 {t : Int} (ht : 0 ≤ t) : hb 64 t ↔ t = 6 := hb_p2 (x := 6) (by omega) ht
/-- the first state at its start -/
theorem mIt_start {R : xR} (h0 : ∀ i, 0 ≤ i → i < 55 → i ≠ 50 → R 44 (55 * 0 + i) = 0) (h5 : R 44 50 = 64) : mIt R 0 = gA0 := by
  funext r p t
  apply propext
  unfold mIt gA0
  constructor
  · rintro ⟨a, b, c, d⟩
    by_cases e : 5 * r + p = 50
    · rw [show 55 * 0 + 5 * r + p = 50 by omega, h5] at d
      exact ⟨by omega, by omega, (hb64 c.1).mp d⟩
    · rw [show 55 * 0 + 5 * r + p = 55 * 0 + (5 * r + p) by omega, h0 _ (by omega) (by omega) e] at d
      exact absurd d (hb_0 t)
  · rintro ⟨rfl, rfl, rfl⟩
    exact ⟨by omega, by omega, by omega, by rw [show (55 * 0 + 5 * 10 + 0 : Int) = 50 by omega, h5]; exact (hb64 (by omega)).mpr rfl⟩
/-- patched: the rule for the whole as the eleventh, rules beyond the last of length 0 (before place r) -/
def mPt (R R1 : xR) (r : Int) : Prop := (∀ a b, a ≠ 35 → a ≠ 36 → a ≠ 37 → ¬ (a = 38 ∧ b = 10) → R1 a b = R a b) ∧ (∀ b, R1 35 b = if b = 10 then 6 else R 35 b) ∧ (∀ b, R1 36 b = if b = 10 then 1 else if R 30 3 ≤ b ∧ b < r then 0 else R 36 b) ∧ (∀ b, R1 37 b = if b = 40 then 6 + R 35 0 else R 37 b)
theorem mPt.zero {R R1 R2 R3 R4 : xR} (hn : R 30 3 ≤ 10) (e1 : R1 = xup R 35 10 6) (e2 : R2 = xup R1 36 10 1) (e3 : R3 = xup R2 37 40 (6 + R 35 0)) (e4 : R4 = xup R3 38 10 1) : mPt R R4 (R 30 3) := by
  refine ⟨fun a b h1 h2 h3 h4 => ?_, fun b => ?_, fun b => ?_, fun b => ?_⟩
  · rw [xr_up e4 h4, xr_o e3 h3, xr_o e2 h2, xr_o e1 h1]
  · rw [xr_o e4 (by decide), xr_o e3 (by decide), xr_o e2 (by decide)]
    by_cases c : b = 10
    · rw [if_pos c, xr_e e1 c]
    · rw [if_neg c, xr_d e1 c]
  · rw [xr_o e4 (by decide), xr_o e3 (by decide)]
    by_cases c : b = 10
    · rw [if_pos c, xr_e e2 c]
    · rw [if_neg c, xr_d e2 c, xr_o e1 (by decide), if_neg (by omega)]
  · rw [xr_o e4 (by decide)]
    by_cases c : b = 40
    · rw [if_pos c, xr_e e3 c]
    · rw [if_neg c, xr_d e3 c, xr_o e2 (by decide), xr_o e1 (by decide)]
theorem mPt.step {R R1 R2 : xR} {r : Int} (h : mPt R R1 r) (hr : R 30 3 ≤ r ∧ r < 10) (e : R2 = xup R1 36 r 0) : mPt R R2 (r + 1) := by
  obtain ⟨h1, h2, h3, h4⟩ := h
  refine ⟨fun a b c1 c2 c3 c4 => (xr_o e c2).trans (h1 a b c1 c2 c3 c4), fun b => (xr_o e (by decide)).trans (h2 b), fun b => ?_, fun b => (xr_o e (by decide)).trans (h4 b)⟩
  by_cases c : b = r
  · rw [c, xr_s e, if_neg (by omega), if_pos (by omega)]
  · rw [xr_d e c, h3]
    by_cases c1 : b = 10
    · rw [if_pos c1, if_pos c1]
    · rw [if_neg c1, if_neg c1]
      by_cases c2 : R 30 3 ≤ b ∧ b < r
      · rw [if_pos c2, if_pos (by omega)]
      · rw [if_neg c2, if_neg (by omega)]
theorem mPt.gM {R R1 : xR} (h : mPt R R1 10) : gM R1 = gP (gM R) := by
  obtain ⟨h1, h2, h3, h4⟩ := h
  unfold gP Jvm.Pilot.CRepairDeskLaw_law_r8657_4e7fad.gM
  have e1 : R1 30 3 = R 30 3 := h1 30 3 (by decide) (by decide) (by decide) (by decide)
  refine Prod.ext e1 (Prod.ext (funext h2) (Prod.ext (funext h3) ?_))
  funext r k
  exact h4 (4 * r + k)
theorem mPt.gr {R R1 : xR} (hg : mG0 R) (hn : 1 ≤ R 30 3) (h : mPt R R1 10) : mGr R1 := by
  obtain ⟨h1, h2, h3, h4⟩ := h
  obtain ⟨g1, g2, g3⟩ := hg
  have e1 : R1 30 3 = R 30 3 := h1 30 3 (by decide) (by decide) (by decide) (by decide)
  unfold mGr
  rw [e1]
  refine ⟨⟨hn, g1.2⟩, fun r a b => ?_, fun r a b => ?_, fun r k a b c d => ?_, ?_, ?_, ?_, fun r a b => ?_⟩
  · rw [h2, if_neg (by omega)]; exact (g2 r a b).1
  · rw [h3]
    by_cases c1 : r = 10
    · rw [if_pos c1]; omega
    · rw [if_neg c1]
      by_cases c2 : R 30 3 ≤ r ∧ r < 10
      · rw [if_pos c2]; omega
      · rw [if_neg c2]; exact (g2 r a (by omega)).2
  · rw [h3] at d
    rw [h4]
    by_cases c1 : r = 10
    · rw [if_pos c1] at d
      rw [if_pos (by omega)]
      have := (g2 0 (by omega) (by omega)).1
      omega
    · rw [if_neg c1] at d
      by_cases c2 : R 30 3 ≤ r ∧ r < 10
      · rw [if_pos c2] at d; omega
      · rw [if_neg c2] at d
        have g5 := (g2 r a (by omega)).2
        rw [if_neg (by omega)]
        exact g3 r k a (by omega) c d
  · rw [h2, if_pos rfl]
  · rw [h3, if_pos rfl]
  · rw [h4, if_pos rfl, h2, if_neg (by omega)]
  · rw [h3, if_neg (by omega), if_pos ⟨a, b⟩]
theorem mG0.wf {R : xR} (h : mG0 R) : gWf (gM R) := ⟨h.1.1, h.1.2, fun r a b => ⟨(h.2.1 r a b).1, (h.2.1 r a b).2, fun k c d => h.2.2 r k a b c d⟩⟩
theorem mPt.pr {R R1 : xR} (hg : mG0 R) (hp : mPr R) (h : mPt R R1 10) : mPr R1 := by
  have eg := h.gM
  have hE := gP.e hg.wf
  obtain ⟨h1, h2, h3, h4⟩ := h
  have e1 : R1 30 3 = R 30 3 := h1 30 3 (by decide) (by decide) (by decide) (by decide)
  unfold mPr
  rw [eg, e1]
  obtain ⟨p1, p2, p3, p4⟩ := hp
  refine ⟨fun r a b => ?_, fun x a b => ?_, fun x a b => ?_, fun x t a b c d => ?_⟩
  · have := hg.1.2
    rw [h1 38 r (by decide) (by decide) (by decide) (by omega), p1 r a b]
    exact zc_iff (hE.us r)
  · rw [h1 40 x (by decide) (by decide) (by decide) (by omega), p2 x a b]
    exact zc_iff (hE.em x)
  · rw [h1 41 x (by decide) (by decide) (by decide) (by omega)]; exact p3 x a b
  · rw [h1 41 x (by decide) (by decide) (by decide) (by omega), p4 x t a b c d]
    exact hE.fi x t
theorem mK.g0 {R R1 : xR} (hg : mG0 R) (h : mK R R1) : mG0 R1 := by
  unfold mG0
  rw [h 30 3 (by decide)]
  refine ⟨hg.1, fun r a b => ?_, fun r k a b c d => ?_⟩
  · rw [h 35 r (by decide), h 36 r (by decide)]; exact hg.2.1 r a b
  · rw [h 36 r (by decide)] at d
    rw [h 37 _ (by decide)]; exact hg.2.2 r k a b c d
/-- the automaton is too great, or has a conflict -/
def auBad (g : xGr) (a : auT) : Prop := 40 < a.1 ∨ ∃ k, 0 ≤ k ∧ k < a.1 ∧ gCf g (a.2.1 k)
/-- the model is compiled -/
def mCo (R : xR) (a : auT) : Prop := mGr R ∧ auF (gM R) a ∧ ¬ auBad (gM R) a ∧ R 30 12 = a.1 ∧ (∀ k, 0 ≤ k → k < a.1 → mIt R k = a.2.1 k) ∧ (∀ i, 0 ≤ i → i < 12 * a.1 → R 45 i = a.2.2 i)
/-- what compile leaves -/
def mCp (R R1 : xR) (z : Int) : Prop := (∀ a b, a ∉ [30, 35, 36, 37, 38, 39, 40, 41, 44, 45] → R1 a b = R a b) ∧ (∀ b, b ∉ [0, 11, 12, 22, 23] → R1 30 b = R 30 b) ∧ (∀ i, 0 ≤ i → i < 2310 → s7 (R1 44 i)) ∧ R1 30 22 = 0 ∧ R1 30 23 = 0 ∧
  ((R 30 3 = 0 ∧ R1 30 0 = 1 ∧ R1 30 12 = 0 ∧ gM R1 = gM R) ∨
   (R 30 3 ≠ 0 ∧ ¬ gCm (gM R) (R 35 0) ∧ R1 30 0 = 2 ∧ R1 30 12 = 0 ∧ gM R1 = gM R) ∨
   (R 30 3 ≠ 0 ∧ gCm (gM R) (R 35 0) ∧ gM R1 = gP (gM R) ∧ ∃ a, auF (gP (gM R)) a ∧ ((auBad (gP (gM R)) a ∧ R1 30 0 = 2 ∧ R1 30 12 = 0) ∨ (R1 30 0 = 0 ∧ z = a.1 ∧ mCo R1 a))))
