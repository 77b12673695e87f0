/-! LR rows 3: every reduction leads on to a shift or the end; the parser ends; its stack stays below 400 -/
def Iv : xSt → Prop
  | [] => True
  | q :: S => (0 < q.2.2 → S.length + 1 ≤ 19 * (wt S + q.2.2)) ∧ Iv S
theorem Iv.pop : ∀ {P S : xSt}, Iv (P ++ S) → 0 < wt P → S.length + 1 ≤ 19 * (wt S + wt P) := by
  intro P
  induction P with
  | nil => intro S _ h; cases h
  | cons q P ih =>
    rintro S ⟨h1, h2⟩ h3
    have e : wt (q :: P) = q.2.2 + wt P := rfl
    rw [e] at h3 ⊢
    by_cases c : 0 < wt P
    · have := ih h2 c
      omega
    · have this : (P ++ S).length + 1 ≤ 19 * (wt (P ++ S) + q.2.2) := h1 (by omega)
      rw [List.length_append, wt_app] at this
      omega
theorem Iv.dr : ∀ (n : Nat) {S : xSt}, Iv S → Iv (S.drop n) := by
  intro n
  induction n with
  | zero => intro S h; exact h
  | succ n ih =>
    intro S h
    cases S with
    | nil => exact trivial
    | cons q S => exact ih h.2
theorem Iv.zp {S S1 : xSt} (h : Iv S) (hz : Zp S S1) : Iv S1 := by
  obtain ⟨P, rfl, p1⟩ := hz
  induction P with
  | nil => exact h
  | cons q P ih =>
    refine ⟨fun hq => ?_, ih (fun q hq => p1 q (List.mem_cons_of_mem _ hq))⟩
    have := p1 q List.mem_cons_self
    omega
/-- from S, with t ahead, the run comes to a shift or to the end -/
def Ph (g : xGr) (a : auT) (S : xSt) (t : Int) : Prop := ∃ n S1, Rc g a (19 * wt S + 36) n S t S1 ∧ pPath a S1 ∧ (Shf a S1 t ∨ Acc a S1 t) ∧ Iv S1 ∧ wt S1 = wt S ∧ S1.length ≤ 19 * wt S1 + 18
section LR3
variable {g : xGr} (hw : gW g) {a : auT} (ho : auOk g a) (hc : auC g a)
theorem PhA (hw : gW g) (ho : auOk g a) (hc : auC g a) {S : xSt} {r p t1 t j : Int} (h1 : pPath a S) (h2 : Iv S) (h3 : S.length ≤ 19 * wt S) (hi : a.2.1 (tp S) r p t1) (hp : 1 ≤ p ∨ (r = 10 ∧ p = 0)) (hj : p ≤ j) (hl : j < g.2.2.1 r) (he : ∀ k, p ≤ k → k < j → 6 ≤ g.2.2.2 r k ∧ gEm g (g.2.2.2 r k - 6)) (hf : g.2.2.2 r j < 6 ∧ t = g.2.2.2 r j ∨ 6 ≤ g.2.2.2 r j ∧ gFi g (g.2.2.2 r j - 6) t) : Ph g a S t := by
  have hit := auItems hw ho h1 r p t1 hi
  have hr := hit.1.rng hw
  have hln := (hw.1.2 r hr.1 hr.2).1
  have hsy := (hw.1.2 r hr.1 hr.2).2 j (by omega) hl
  have ht : 0 ≤ t ∧ t < 6 := by
    rcases hf with ⟨f1, f2⟩ | ⟨-, f2⟩
    · omega
    · exact gFi_rng hw.1.1 f2
  have hd : (j - p).toNat ≤ 2 := by
    rcases hp with hp | ⟨hp1, hp2⟩
    · omega
    · have := hw.2.1
      rw [hp1] at hl
      omega
  have hex : ∃ π, FPx g π (g.2.2.2 r j) t := by
    rcases hf with ⟨f1, f2⟩ | ⟨f1, f2⟩
    · exact ⟨[], f1, f2⟩
    · obtain ⟨π, h⟩ := FPx.of hw f2
      rw [show 6 + (g.2.2.2 r j - 6) = g.2.2.2 r j by omega] at h
      exact ⟨π, h⟩
  obtain ⟨π, p1, p2, p3, p4⟩ := FPx.min hw hex (fun π1 π2 q1 q2 => by
    obtain ⟨n1, S1, a1, a2, a3, a4, -⟩ := FI hw ho ht π1 S r p t1 j h1 hi hit.2.1.1 hj hl he q1
    obtain ⟨n2, S2, b1, b2, b3, b4, -⟩ := FI hw ho ht π2 S r p t1 j h1 hi hit.2.1.1 hj hl he q2
    have := Rc.fun hw ho hc ht.1 h1 a1 b1 a3 b3
    subst this
    omega)
  obtain ⟨n1, S1, a1, a2, a3, a4, a5⟩ := FI hw ho ht π S r p t1 j h1 hi hit.2.1.1 hj hl he p1
  refine ⟨n1, S1, Rc.mono (by omega) a1, a2, Or.inl a3, h2.zp a5, a5.wt, ?_⟩
  rw [a5.wt]
  omega
/-- behind the symbol at an item's dot, of w letters, with t0 ahead that may follow, the run comes on -/
def Th (g : xGr) (a : auT) (S0 : xSt) (r p t : Int) : Prop := p < g.2.2.1 r → ∀ (w : Nat) (t0 : Int), 0 < w → S0.length + 1 ≤ 19 * (wt S0 + w) → Iv S0 → gFs g r (p + 1) t t0 → Ph g a (px a S0 (g.2.2.2 r p) w) t0
theorem it10 (ho : auOk g a) : ∀ {S : xSt}, pPath a S → ∀ {p t : Int}, a.2.1 (tp S) 10 p t → t = 6 ∨ gUs g 10 := by
  intro S
  induction S with
  | nil =>
    intro _ p t h
    have h' : a.2.1 0 10 p t := h
    rw [ho.1] at h'
    exact h'.ind (C := fun r _ t => r = 10 → t = 6 ∨ gUs g 10) (fun r p t h _ => Or.inl h.2.2) (fun r p t _ _ r' hu _ t' _ e => Or.inr (e ▸ hu)) rfl
  | cons q S ih =>
    intro hp p t h
    have h' : a.2.1 q.1 10 p t := h
    rw [hp.st ho] at h'
    exact h'.ind (C := fun r _ t => r = 10 → t = 6 ∨ gUs g 10) (fun r p t h e => by subst e; exact ih hp.2 h.2.1) (fun r p t _ _ r' hu _ t' _ e => Or.inr (e ▸ hu)) rfl
theorem par (ho : auOk g a) {S : xSt} {r t : Int} (h : pPath a S) (hi : a.2.1 (tp S) r 0 t) (h10 : r ≠ 10) : ∃ r' p' t', a.2.1 (tp S) r' p' t' ∧ p' < g.2.2.1 r' ∧ g.2.2.2 r' p' = 6 + g.2.1 r ∧ gFs g r' (p' + 1) t' t := by
  cases S with
  | nil =>
    have k3 : a.2.1 0 r 0 t := hi
    rw [ho.1] at k3
    rcases gCl_zero k3 with k4 | ⟨-, r', p', t', k4, k5, k6, k7⟩
    · exact absurd k4.1 h10
    · exact ⟨r', p', t', by show a.2.1 0 r' p' t'; rw [ho.1]; exact k4, k5, k6, k7⟩
  | cons q S0 =>
    have k3 : a.2.1 q.1 r 0 t := hi
    rw [h.st ho] at k3
    rcases gCl_zero k3 with k4 | ⟨-, r', p', t', k4, k5, k6, k7⟩
    · have := k4.1; omega
    · exact ⟨r', p', t', by show a.2.1 q.1 r' p' t'; rw [h.st ho]; exact k4, k5, k6, k7⟩
theorem wt_cons (q : Int × Int × Nat) (S : xSt) : wt (q :: S) = q.2.2 + wt S := rfl
theorem wt_td (n : Nat) (S : xSt) : wt (S.take n) + wt (S.drop n) = wt S := by rw [← wt_app, List.take_append_drop]
theorem ThStep (hw : gW g) (ho : auOk g a) (hc : auC g a) {S0 : xSt} {r p t : Int} (h1 : pPath a S0) (hi : a.2.1 (tp S0) r p t)
    (HP : r ≠ 10 → ∃ r' p' t', a.2.1 (tp (S0.drop p.toNat)) r' p' t' ∧ p' < g.2.2.1 r' ∧ g.2.2.2 r' p' = 6 + g.2.1 r ∧ gFs g r' (p' + 1) t' t ∧ Th g a (S0.drop p.toNat) r' p' t') : Th g a S0 r p t := by
  intro hp w t0 hw0 hlen hiv hf
  have hit := auItems hw ho h1 r p t hi
  have hr := hit.1.rng hw
  have hln := (hw.1.2 r hr.1 hr.2).1
  have hsy := (hw.1.2 r hr.1 hr.2).2 p hit.2.1.1 hp
  obtain ⟨g1, g2⟩ := h1.push ho hi ⟨hit.2.1.1, hp⟩ (by omega) w
  have hwt : wt (px a S0 (g.2.2.2 r p) w) = w + wt S0 := rfl
  have hiv1 : Iv (px a S0 (g.2.2.2 r p) w) := ⟨fun _ => hlen, hiv⟩
  have hlen1 : (px a S0 (g.2.2.2 r p) w).length ≤ 19 * wt (px a S0 (g.2.2.2 r p) w) := by
    rw [hwt]
    show S0.length + 1 ≤ _
    omega
  rcases hf with ⟨j, j1, j2, j3, j4⟩ | ⟨hn, rfl⟩
  · exact PhA hw ho hc g1 hiv1 hlen1 g2 (Or.inl (by omega)) j1 j2 j3 j4
  · obtain ⟨n, S2, k1, k0, k2, k3, k4, k5, k6, k7⟩ := BR hw ho (NB hw ho 6) (t := t0) (r := r) (t1 := t0) (g.2.2.1 r - (p + 1)).toNat (p + 1) (px a S0 (g.2.2.2 r p) w) (19 * wt (px a S0 (g.2.2.2 r p) w) + 36) (by omega) (by right; show _ + 16 ≤ _; omega) g1 g2 (by omega) (by omega)
      (fun k q1 q2 => ⟨(hn k q1 (by omega)).1, Emk.six hw (hn k q1 (by omega)).2⟩) (fun k q1 q2 => Or.inr ⟨fun i i1 i2 => hn i (by omega) i2, rfl⟩)
    rw [show p + 1 + ((g.2.2.1 r - (p + 1)).toNat : Int) = g.2.2.1 r by omega] at k3
    by_cases h10 : r = 10
    · subst h10
      have ht6 : t0 = 6 := (it10 ho h1 hi).resolve_right (fun q => by have := q.2.1; have := hw.1.1.2.1; omega)
      have e1 := hw.2.1
      refine ⟨n, S2, k1, k2, Or.inr ⟨ht6, ?_⟩, hiv1.zp k6, k6.wt, ?_⟩
      · rw [← ht6, ← e1]; exact k3
      · rw [k6.wt, k4]
        have : (g.2.2.1 10 - (p + 1)).toNat = 0 := by omega
        rw [this]
        omega
    · obtain ⟨r', p', t', m1, m2, m3, m4, m5⟩ := HP h10
      -- the reduction
      have hpl : p.toNat ≤ S0.length := (h1.popn ho p.toNat hi (by have := hit.2.1.1; omega)).1
      have hdrop : S2.drop (g.2.2.1 r).toNat = S0.drop p.toNat := by
        rw [show (g.2.2.1 r).toNat = (g.2.2.1 r - (p + 1)).toNat + (1 + p.toNat) by have := hit.2.1.1; omega, ← List.drop_drop, k5, ← List.drop_drop]
        rfl
      have htake : wt (S2.take (g.2.2.1 r).toNat) = w + wt (S0.take p.toNat) := by
        have e1 := wt_td (g.2.2.1 r).toNat S2
        rw [hdrop, k6.wt, hwt] at e1
        have e2 := wt_td p.toNat S0
        omega
      have hred : Red g a S2 t0 (px a (S0.drop p.toNat) (g.2.2.2 r' p') (w + wt (S0.take p.toNat))) := ⟨r, h10, k3, by unfold rd; rw [hdrop, htake, m3]⟩
      have hpop : (S0.drop p.toNat).length + 1 ≤ 19 * (wt (S0.drop p.toNat) + (w + wt (S0.take p.toNat))) := by
        have e1 : Iv (((a.2.2 (12 * tp S0 + g.2.2.2 r p), g.2.2.2 r p, w) :: S0.take p.toNat) ++ S0.drop p.toNat) := by
          rw [List.cons_append, List.take_append_drop]
          exact hiv1
        exact e1.pop (by rw [wt_cons]; show 0 < w + _; omega)
      obtain ⟨n2, S3, s1, s2, s3, s4, s5, s6⟩ := m5 m2 (w + wt (S0.take p.toNat)) t0 (by omega) hpop (hiv.dr _) m4
      have hwt3 : wt (px a (S0.drop p.toNat) (g.2.2.2 r' p') (w + wt (S0.take p.toNat))) = wt (px a S0 (g.2.2.2 r p) w) := by
        rw [hwt]
        show (w + wt (S0.take p.toNat)) + wt (S0.drop p.toNat) = _
        have e2 := wt_td p.toNat S0
        omega
      rw [hwt3] at s1 s5
      have hl3 : (px a (S0.drop p.toNat) (g.2.2.2 r' p') (w + wt (S0.take p.toNat))).length ≤ 19 * wt (px a S0 (g.2.2.2 r p) w) + 36 := by
        show (S0.drop p.toNat).length + 1 ≤ _
        rw [List.length_drop]
        have : (px a S0 (g.2.2.2 r p) w).length = S0.length + 1 := rfl
        omega
      exact ⟨n + 1 + n2, S3, (k1.trans (Rc.one hred k0 hl3)).trans s1, s2, s3, s4, s5, s6⟩
theorem ThAll (hw : gW g) (ho : auOk g a) (hc : auC g a) : ∀ (n : Nat) (S0 : xSt), S0.length = n → pPath a S0 → ∀ {r p t : Int}, a.2.1 (tp S0) r p t → Th g a S0 r p t := by
  intro n
  induction n using Nat.strongRecOn with
  | _ n ih =>
    intro S0 hlen hp r p t hi
    have hclosed : gClosed g (fun r p t => a.2.1 (tp S0) r p t ∧ Th g a S0 r p t) := by
      rintro r p t ⟨c1, c2⟩ hpl r' hu hx t' hf
      have hm : a.2.1 (tp S0) r' 0 t' := by
        cases S0 with
        | nil =>
          show a.2.1 0 r' 0 t'
          have c1' : a.2.1 0 r p t := c1
          rw [ho.1] at c1' ⊢
          exact gCl.closed r p t c1' hpl r' hu hx t' hf
        | cons q S =>
          show a.2.1 q.1 r' 0 t'
          have c1' : a.2.1 q.1 r p t := c1
          rw [hp.st ho] at c1' ⊢
          exact gCl.closed r p t c1' hpl r' hu hx t' hf
      exact ⟨hm, ThStep hw ho hc hp hm (fun _ => ⟨r, p, t, c1, hpl, hx, hf, c2⟩)⟩
    cases S0 with
    | nil =>
      have hi' : a.2.1 0 r p t := hi
      rw [ho.1] at hi'
      refine (hi'.ind (C := fun r p t => a.2.1 (tp []) r p t ∧ Th g a [] r p t) (fun r p t h => ?_) hclosed).2
      have hm : a.2.1 (tp []) r p t := by show a.2.1 0 r p t; rw [ho.1]; exact gCl.sub h
      exact ⟨hm, ThStep hw ho hc hp hm (fun q => absurd h.1 q)⟩
    | cons q S =>
      have hi' : a.2.1 q.1 r p t := hi
      rw [hp.st ho] at hi'
      refine (hi'.ind (C := fun r p t => a.2.1 (tp (q :: S)) r p t ∧ Th g a (q :: S) r p t) (fun r p t h => ?_) hclosed).2
      have hm : a.2.1 (tp (q :: S)) r p t := by show a.2.1 q.1 r p t; rw [hp.st ho]; exact gCl.sub h
      have hp1 := h.1
      refine ⟨hm, ThStep hw ho hc hp hm (fun h10 => ?_)⟩
      obtain ⟨k1, k2⟩ := hp.popn ho p.toNat hm (by omega)
      have hd := pPath.drop p.toNat hp
      obtain ⟨r', p', t', m1, m2, m3, m4⟩ := par ho hd k2 h10
      have hl : ((q :: S).drop p.toNat).length < n := by
        rw [List.length_drop]
        have : (q :: S).length = S.length + 1 := rfl
        omega
      exact ⟨r', p', t', m1, m2, m3, m4, ih _ hl _ rfl hd m1⟩
/-- what may come behind an item may come behind one of the kernel -/
theorem Kn (hw : gW g) (ho : auOk g a) {S : xSt} {r q t t0 : Int} (h : pPath a S) (hi : a.2.1 (tp S) r q t) (hf : gFs g r q t t0) : ∃ r1 p1 t1, a.2.1 (tp S) r1 p1 t1 ∧ (1 ≤ p1 ∨ (r1 = 10 ∧ p1 = 0 ∧ t1 = 6 ∧ S = [])) ∧ gFs g r1 p1 t1 t0 := by
  have hcl : gClosed g (fun r q t => ∀ t0, gFs g r q t t0 → ∃ r1 p1 t1, a.2.1 (tp S) r1 p1 t1 ∧ (1 ≤ p1 ∨ (r1 = 10 ∧ p1 = 0 ∧ t1 = 6 ∧ S = [])) ∧ gFs g r1 p1 t1 t0) := by
    intro r p t c hpl r' hu hx t' hf t0 h0
    have hl := (hw.1.1.2.2 r' hu.1 hu.2.1).1
    exact c t0 (gFs_up hpl hu hx hl.1 hf h0)
  cases S with
  | nil =>
    have hi' : a.2.1 0 r q t := hi
    rw [ho.1] at hi'
    refine hi'.ind (C := fun r q t => ∀ t0, gFs g r q t t0 → ∃ r1 p1 t1, a.2.1 (tp []) r1 p1 t1 ∧ (1 ≤ p1 ∨ (r1 = 10 ∧ p1 = 0 ∧ t1 = 6 ∧ ([] : xSt) = [])) ∧ gFs g r1 p1 t1 t0) (fun r p t hk t0 h0 => ?_) hcl t0 hf
    exact ⟨r, p, t, by show a.2.1 0 r p t; rw [ho.1]; exact gCl.sub hk, Or.inr ⟨hk.1, hk.2.1, hk.2.2, rfl⟩, h0⟩
  | cons c S =>
    have hi' : a.2.1 c.1 r q t := hi
    rw [h.st ho] at hi'
    refine hi'.ind (C := fun r q t => ∀ t0, gFs g r q t t0 → ∃ r1 p1 t1, a.2.1 (tp (c :: S)) r1 p1 t1 ∧ (1 ≤ p1 ∨ (r1 = 10 ∧ p1 = 0 ∧ t1 = 6 ∧ (c :: S) = [])) ∧ gFs g r1 p1 t1 t0) (fun r p t hk t0 h0 => ?_) hcl t0 hf
    exact ⟨r, p, t, by show a.2.1 c.1 r p t; rw [h.st ho]; exact gCl.sub hk, Or.inl hk.1, h0⟩
theorem PhT (hw : gW g) (ho : auOk g a) (hc : auC g a) {S : xSt} {t0 : Int} (h : pPath a S) (hiv : Iv S) (hlen : S.length ≤ 19 * wt S) (htop : S = [] ∨ ∃ q S0, S = q :: S0 ∧ 0 < q.2.2) (hact : Shf a S t0 ∨ Acc a S t0 ∨ ∃ S1, Red g a S t0 S1) : Ph g a S t0 := by
  rcases hact with h1 | h1 | ⟨S1, r, h10, hi, -⟩
  · exact ⟨0, S, ⟨rfl, by omega⟩, h, Or.inl h1, hiv, rfl, by omega⟩
  · exact ⟨0, S, ⟨rfl, by omega⟩, h, Or.inr h1, hiv, rfl, by omega⟩
  · obtain ⟨r1, p1, t1, k1, k2, k3⟩ := Kn hw ho h hi (Or.inr ⟨fun k q1 q2 => by omega, rfl⟩)
    rcases k2 with k2 | ⟨rfl, rfl, rfl, rfl⟩
    · obtain ⟨q, S0, rfl, m1, m2, m3⟩ := h.pop ho k1 k2
      have hq0 : 0 < q.2.2 := by
        rcases htop with e | ⟨q', S', e, hq⟩
        · cases e
        · cases e; exact hq
      have hth := ThAll hw ho hc _ S0 rfl h.2 m2 m3 q.2.2 t0 hq0 (by have e : (q :: S0).length = S0.length + 1 := rfl; rw [wt_cons] at hlen; omega) hiv.2 (by rw [show p1 - 1 + 1 = p1 by omega]; exact k3)
      have e : px a S0 (g.2.2.2 r1 (p1 - 1)) q.2.2 = q :: S0 := by
        unfold px
        rw [← m1, h.1.1]
      rw [e] at hth
      exact hth
    · rcases k3 with ⟨j, j1, j2, j3, j4⟩ | ⟨hn, rfl⟩
      · exact PhA hw ho hc h hiv hlen k1 (Or.inr ⟨rfl, rfl⟩) j1 j2 j3 j4
      · have e1 := hw.2.1
        obtain ⟨n, S2, k4, k0, k5, k6, k7, k8, k9, k10⟩ := BR hw ho (NB hw ho 6) (t := 6) (r := 10) (t1 := 6) 1 0 [] 36 (by simp) (by right; decide) h k1 (Int.le_refl _) (by omega) (fun k q1 q2 => ⟨(hn k q1 (by omega)).1, Emk.six hw (hn k q1 (by omega)).2⟩) (fun k q1 q2 => Or.inr ⟨fun i i1 i2 => hn i (by omega) i2, rfl⟩)
        exact ⟨n, S2, k4, k5, Or.inr ⟨rfl, k6⟩, Iv.zp (S := []) trivial k9, k9.wt, by rw [k7]; show 0 + 1 ≤ _; omega⟩
/-- what stands ahead -/
def la (w : Int → Int) (n k : Int) : Int := if k < n then w k else 6
/-- the parser's run of at most m steps from stack S at place k ends with z: -1 a sentence, else where it goes wrong; no stack higher than 399 -/
def PR (g : xGr) (a : auT) (w : Int → Int) (n : Int) : Nat → xSt → Int → Int → Prop
  | 0, _, _, _ => False
  | m + 1, S, k, z => S.length ≤ 399 ∧ ((Shf a S (la w n k) ∧ PR g a w n m (px a S (la w n k) 1) (k + 1) z) ∨ (∃ S1, Red g a S (la w n k) S1 ∧ PR g a w n m S1 k z) ∨ (Acc a S (la w n k) ∧ z = -1) ∨ (¬ (Shf a S (la w n k) ∨ Acc a S (la w n k) ∨ ∃ S1, Red g a S (la w n k) S1) ∧ z = k))
theorem PR.rc {w : Int → Int} {n k z : Int} {b : Nat} (hb : b ≤ 399) : ∀ {c m : Nat} {S S1 : xSt}, Rc g a b c S (la w n k) S1 → PR g a w n m S1 k z → PR g a w n (c + m) S k z := by
  intro c
  induction c with
  | zero => rintro m S S1 ⟨rfl, -⟩ h; rw [Nat.zero_add]; exact h
  | succ c ih =>
    rintro m S S1 ⟨h1, S2, h2, h3⟩ h
    rw [show c + 1 + m = (c + m) + 1 by omega]
    exact ⟨by omega, Or.inr (Or.inl ⟨S2, h2, ih h3 h⟩)⟩
theorem PR.ex (hw : gW g) (ho : auOk g a) (hc : auC g a) {w : Int → Int} {n : Int} (hn : 0 ≤ n ∧ n ≤ 19) (hwd : ∀ k, 0 ≤ k → k < n → 0 ≤ w k ∧ w k < 6) : ∀ (d : Nat) (S : xSt) (k : Int), 0 ≤ k → k + d = n → pPath a S → Iv S → S.length ≤ 19 * wt S → (S = [] ∨ ∃ q S0, S = q :: S0 ∧ 0 < q.2.2) → (wt S : Int) = k → ∃ m z, PR g a w n m S k z := by
  intro d
  induction d with
  | zero =>
    intro S k hk0 hk h1 h2 h3 h4 h5
    by_cases hact : Shf a S (la w n k) ∨ Acc a S (la w n k) ∨ ∃ S1, Red g a S (la w n k) S1
    · obtain ⟨c, S1, p1, p2, p3, p4, p5, p6⟩ := PhT hw ho hc h1 h2 h3 h4 hact
      rcases p3 with p3 | p3
      · have := p3.1
        unfold la at this
        rw [if_neg (by omega)] at this
        omega
      · exact ⟨c + 1, -1, PR.rc (by omega) p1 ⟨by omega, Or.inr (Or.inr (Or.inl ⟨p3, rfl⟩))⟩⟩
    · exact ⟨1, k, by omega, Or.inr (Or.inr (Or.inr ⟨hact, rfl⟩))⟩
  | succ d ih =>
    intro S k hk0 hk h1 h2 h3 h4 h5
    by_cases hact : Shf a S (la w n k) ∨ Acc a S (la w n k) ∨ ∃ S1, Red g a S (la w n k) S1
    · obtain ⟨c, S1, p1, p2, p3, p4, p5, p6⟩ := PhT hw ho hc h1 h2 h3 h4 hact
      have hla : la w n k = w k := if_pos (by omega)
      have hwk := hwd k hk0 (by omega)
      rcases p3 with p3 | p3
      · have hpath : pPath a (px a S1 (la w n k) 1) := ⟨⟨rfl, p3.2, by show 0 ≤ la w n k; omega, by show la w n k < 12; omega⟩, p2⟩
        have hwt1 : wt (px a S1 (la w n k) 1) = 1 + wt S1 := rfl
        obtain ⟨m, z, hm⟩ := ih (px a S1 (la w n k) 1) (k + 1) (by omega) (by omega) hpath ⟨fun _ => by show S1.length + 1 ≤ 19 * (wt S1 + 1); omega, p4⟩ (by rw [hwt1]; show S1.length + 1 ≤ _; omega) (Or.inr ⟨_, S1, rfl, by show 0 < 1; omega⟩) (by rw [hwt1]; omega)
        exact ⟨c + (m + 1), z, PR.rc (by omega) p1 ⟨by omega, Or.inl ⟨p3, hm⟩⟩⟩
      · exact ⟨c + 1, -1, PR.rc (by omega) p1 ⟨by omega, Or.inr (Or.inr (Or.inl ⟨p3, rfl⟩))⟩⟩
    · exact ⟨1, k, by omega, Or.inr (Or.inr (Or.inr ⟨hact, rfl⟩))⟩
/-- every text of at most 19 letters: the parser ends -/
theorem PR.all (hw : gW g) (ho : auOk g a) (hc : auC g a) {w : Int → Int} {n : Int} (hn : 0 ≤ n ∧ n ≤ 19) (hwd : ∀ k, 0 ≤ k → k < n → 0 ≤ w k ∧ w k < 6) : ∃ m z, PR g a w n m [] 0 z :=
  PR.ex hw ho hc hn hwd n.toNat [] 0 (Int.le_refl _) (by omega) trivial trivial (by simp) (Or.inl rfl) rfl
theorem Red.noAcc (hw : gW g) (ho : auOk g a) (hc : auC g a) {S S1 : xSt} {t : Int} (h : pPath a S) (h1 : Red g a S t S1) : ¬ Acc a S t := by
  rintro ⟨rfl, h2⟩
  obtain ⟨r, h10, r1, -⟩ := h1
  obtain ⟨i1, i2⟩ := h.rg ho
  exact hc _ i1 i2 ⟨r, 6, r1, Or.inl ⟨10, fun e => h10 e.symm, by rw [hw.2.1]; exact h2⟩⟩
theorem la_rng {w : Int → Int} {n k : Int} (hwd : ∀ k, 0 ≤ k → k < n → 0 ≤ w k ∧ w k < 6) (hk : 0 ≤ k) : 0 ≤ la w n k ∧ la w n k < 7 := by
  unfold la
  by_cases c : k < n
  · rw [if_pos c]; have := hwd k hk c; omega
  · rw [if_neg c]; omega
theorem PR.fun (hw : gW g) (ho : auOk g a) (hc : auC g a) {w : Int → Int} {n : Int} (hwd : ∀ k, 0 ≤ k → k < n → 0 ≤ w k ∧ w k < 6) : ∀ {m m' : Nat} {S : xSt} {k z z' : Int}, 0 ≤ k → pPath a S → PR g a w n m S k z → PR g a w n m' S k z' → z = z' := by
  intro m
  induction m with
  | zero => intro m' S k z z' _ _ h; exact h.elim
  | succ m ih =>
    rintro m' S k z z' hk hp ⟨-, h⟩ h'
    cases m' with
    | zero => exact h'.elim
    | succ m' =>
      obtain ⟨-, h'⟩ := h'
      have hla := la_rng hwd hk
      rcases h with ⟨s, h⟩ | ⟨S1, s, h⟩ | ⟨s, h⟩ | ⟨s, h⟩ <;> rcases h' with ⟨s', h'⟩ | ⟨S1', s', h'⟩ | ⟨s', h'⟩ | ⟨s', h'⟩
      · have hpath : pPath a (px a S (la w n k) 1) := ⟨⟨rfl, s.2, hla.1, by show la w n k < 12; omega⟩, hp⟩
        exact ih (by omega) hpath h h'
      · exact absurd s (s'.noShf ho hc hp hla.1)
      · have := s.1; have := s'.1; omega
      · exact absurd (Or.inl s) s'
      · exact absurd s' (s.noShf ho hc hp hla.1)
      · have := s.fun ho hc hp s'
        subst this
        exact ih hk (s.path hw ho hp) h h'
      · exact absurd s' (s.noAcc hw ho hc hp)
      · exact absurd (Or.inr (Or.inr ⟨S1, s⟩)) s'
      · have := s.1; have := s'.1; omega
      · exact absurd s (s'.noAcc hw ho hc hp)
      · omega
      · exact absurd (Or.inr (Or.inl s)) s'
      · exact absurd (Or.inl s') s
      · exact absurd (Or.inr (Or.inr ⟨S1', s'⟩)) s
      · exact absurd (Or.inr (Or.inl s')) s
      · omega
theorem PR.rng {w : Int → Int} {n : Int} (hwd : ∀ k, 0 ≤ k → k < n → 0 ≤ w k ∧ w k < 6) : ∀ {m : Nat} {S : xSt} {k z : Int}, 0 ≤ k → k ≤ n → PR g a w n m S k z → (z = -1 ∨ (k ≤ z ∧ z ≤ n)) := by
  intro m
  induction m with
  | zero => intro S k z _ _ h; exact h.elim
  | succ m ih =>
    rintro S k z hk hk2 ⟨-, h⟩
    rcases h with ⟨s, h⟩ | ⟨S1, s, h⟩ | ⟨s, h⟩ | ⟨s, h⟩
    · have h1 := s.1
      unfold la at h1
      by_cases c : k < n
      · have := ih (k := k + 1) (by omega) (by omega) h
        omega
      · rw [if_neg c] at h1; omega
    · exact ih hk hk2 h
    · exact Or.inl h
    · omega
end LR3
/-- where a row of n letters w goes wrong -/
def pR (g : xGr) (a : auT) (w : Int → Int) (n z : Int) : Prop := ∃ m, PR g a w n m [] 0 z
