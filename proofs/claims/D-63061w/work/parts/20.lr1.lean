/-! LR rows 1: what the automaton's making gives; stacks, paths, reductions -/
/-- the automaton whole: each state leads where it should -/
def auOk (g : xGr) (a : auT) : Prop := a.2.1 0 = gCl g gA0 ∧ 1 ≤ a.1 ∧ a.1 ≤ 40 ∧ ∀ k x, 0 ≤ k → k < a.1 → 0 ≤ x → x < 12 → (a.2.2 (12 * k + x) = -1 ∧ ¬ ∃ r p t, gGo g (a.2.1 k) x r p t) ∨ ((0 ≤ a.2.2 (12 * k + x) ∧ a.2.2 (12 * k + x) < a.1) ∧ a.2.1 (a.2.2 (12 * k + x)) = gCl g (gGo g (a.2.1 k) x) ∧ ∃ r p t, gGo g (a.2.1 k) x r p t)
theorem auR.part {g : xGr} : ∀ (c : Nat) {a : auT}, auR g c a → a.2.1 0 = gCl g gA0 ∧ ∀ i : Int, 0 ≤ i → i < c → i / 12 < a.1 ∧ ((a.2.2 i = -1 ∧ ¬ ∃ r p t, gGo g (a.2.1 (i / 12)) (i % 12) r p t) ∨ ((0 ≤ a.2.2 i ∧ a.2.2 i < a.1) ∧ a.2.1 (a.2.2 i) = gCl g (gGo g (a.2.1 (i / 12)) (i % 12)) ∧ ∃ r p t, gGo g (a.2.1 (i / 12)) (i % 12) r p t)) := by
  intro c
  induction c with
  | zero =>
    intro a h
    have h' : a = auI g := h
    subst h'
    exact ⟨rfl, fun i h1 h2 => by omega⟩
  | succ c ih =>
    rintro a ⟨b, h1, h2, h3⟩
    obtain ⟨i1, i2⟩ := ih h1
    have hb1 := (auR.inv c h1).2.1
    rcases h3 with ⟨n, rfl⟩ | ⟨n, q, q1, q2, q3, rfl⟩ | ⟨n, hn, rfl⟩
    · refine ⟨i1, fun i p1 p2 => ?_⟩
      by_cases e : i = c
      · subst e
        exact ⟨h2.1, Or.inl ⟨up1_s _ _ _, n⟩⟩
      · show i / 12 < b.1 ∧ ((up1 b.2.2 c (-1) i = -1 ∧ _) ∨ ((0 ≤ up1 b.2.2 c (-1) i ∧ up1 b.2.2 c (-1) i < b.1) ∧ b.2.1 (up1 b.2.2 c (-1) i) = _ ∧ _))
        rw [up1_n _ _ e]
        exact i2 i p1 (by omega)
    · refine ⟨i1, fun i p1 p2 => ?_⟩
      show i / 12 < b.1 ∧ ((up1 b.2.2 c q i = -1 ∧ _) ∨ ((0 ≤ up1 b.2.2 c q i ∧ up1 b.2.2 c q i < b.1) ∧ b.2.1 (up1 b.2.2 c q i) = _ ∧ _))
      by_cases e : i = c
      · subst e
        rw [up1_s]
        exact ⟨h2.1, Or.inr ⟨⟨q1, q2⟩, q3, n⟩⟩
      · rw [up1_n _ _ e]
        exact i2 i p1 (by omega)
    · have hst : ∀ k, k < b.1 → up1 b.2.1 b.1 (gCl g (gGo g (b.2.1 ((c : Int) / 12)) ((c : Int) % 12))) k = b.2.1 k := fun k hk => up1_n _ _ (by omega)
      refine ⟨(hst 0 (by omega)).trans i1, fun i p1 p2 => ?_⟩
      show i / 12 < b.1 + 1 ∧ ((up1 b.2.2 c b.1 i = -1 ∧ ¬ ∃ r p t, gGo g (up1 b.2.1 b.1 (gCl g (gGo g (b.2.1 ((c : Int) / 12)) ((c : Int) % 12))) (i / 12)) (i % 12) r p t) ∨ ((0 ≤ up1 b.2.2 c b.1 i ∧ up1 b.2.2 c b.1 i < b.1 + 1) ∧ up1 b.2.1 b.1 (gCl g (gGo g (b.2.1 ((c : Int) / 12)) ((c : Int) % 12))) (up1 b.2.2 c b.1 i) = gCl g (gGo g (up1 b.2.1 b.1 (gCl g (gGo g (b.2.1 ((c : Int) / 12)) ((c : Int) % 12))) (i / 12)) (i % 12)) ∧ ∃ r p t, gGo g (up1 b.2.1 b.1 (gCl g (gGo g (b.2.1 ((c : Int) / 12)) ((c : Int) % 12))) (i / 12)) (i % 12) r p t))
      by_cases e : i = c
      · subst e
        rw [up1_s, hst _ h2.1, up1_s]
        exact ⟨by omega, Or.inr ⟨⟨by omega, by omega⟩, rfl, n⟩⟩
      · rw [up1_n _ _ e]
        obtain ⟨j1, j2⟩ := i2 i p1 (by omega)
        rw [hst _ j1]
        refine ⟨by omega, ?_⟩
        rcases j2 with j2 | ⟨j3, j4, j5⟩
        · exact Or.inl j2
        · refine Or.inr ⟨⟨j3.1, by omega⟩, ?_, j5⟩
          rw [hst _ j3.2]; exact j4
theorem auF.ok {g : xGr} {a : auT} (h : auF g a) (hb : ¬ auBad g a) : auOk g a := by
  obtain ⟨c, h1, h2⟩ := h
  have h40 : ¬ 40 < a.1 := fun q => hb (Or.inl q)
  obtain ⟨i1, i2⟩ := auR.part c h1
  have h3 := (auR.inv c h1).2.1
  refine ⟨i1, h3, by omega, fun k x p1 p2 p3 p4 => ?_⟩
  have h4 := (i2 (12 * k + x) (by omega) (by omega)).2
  rw [show (12 * k + x) / 12 = k by omega, show (12 * k + x) % 12 = x by omega] at h4
  exact h4
-- ===== the grammar in use: rules in range, the eleventh for the whole =====
def gW (g : xGr) : Prop := gWf1 g ∧ g.2.2.1 10 = 1 ∧ g.2.2.2 10 0 = 6 + g.2.1 0 ∧ 1 ≤ g.1
theorem mGr.gW {R : xR} (h : mGr R) : gW (gM R) := ⟨h.wf1, h.2.2.2.2.2.1, h.2.2.2.2.2.2.1, h.1.1⟩
/-- rules that items speak of -/
def gDm (g : xGr) (r : Int) : Prop := r = 10 ∨ gUs g r
theorem gDm.rng {g : xGr} (hw : gW g) {r : Int} (h : gDm g r) : 0 ≤ r ∧ r ≤ 10 := by
  rcases h with h | h
  · omega
  · have := h.1
    have := h.2.1
    have := hw.1.1.2.1
    omega
def itOk (g : xGr) (A : xIt) : Prop := ∀ r p t, A r p t → gDm g r ∧ (0 ≤ p ∧ p ≤ g.2.2.1 r) ∧ (0 ≤ t ∧ t < 7)
theorem itOk.cl {g : xGr} (hw : gW g) {A : xIt} (h : itOk g A) : itOk g (gCl g A) := by
  intro r p t hi
  refine hi.ind (C := fun r p t => gDm g r ∧ (0 ≤ p ∧ p ≤ g.2.2.1 r) ∧ (0 ≤ t ∧ t < 7)) h ?_
  intro r p t ⟨h1, h2, h3⟩ hp r' hu hx t' hf
  have hr := h1.rng hw
  refine ⟨Or.inr hu, ⟨Int.le_refl _, ?_⟩, gFs_rng hw.1 hr.1 hr.2 (by omega) h3 hf⟩
  exact ((hw.1.1.2.2 r' hu.1 hu.2.1).2.1).1
theorem itOk.go {g : xGr} {A : xIt} (h : itOk g A) (x : Int) : itOk g (gGo g A x) := by
  rintro r p t ⟨h1, h2, h3, -⟩
  obtain ⟨a, b, c⟩ := h r (p - 1) t h2
  exact ⟨a, ⟨by omega, by omega⟩, c⟩
theorem itOk.a0 {g : xGr} (hw : gW g) : itOk g gA0 := by
  rintro r p t ⟨rfl, rfl, rfl⟩
  exact ⟨Or.inl rfl, ⟨by omega, by rw [hw.2.1]; omega⟩, by omega⟩
/-- items at a place behind the first come from the kernel -/
theorem gCl_pos {g : xGr} {A : xIt} {r p t : Int} (h : gCl g A r p t) (hp : 1 ≤ p) : A r p t :=
  h.ind (C := fun r p t => 1 ≤ p → A r p t) (fun _ _ _ h _ => h) (fun _ _ _ _ _ _ _ _ _ _ h => absurd h (by omega)) hp
/-- items at the first place: of the kernel, or with a parent -/
theorem gCl_zero {g : xGr} {A : xIt} {r t : Int} (h : gCl g A r 0 t) : A r 0 t ∨ (gUs g r ∧ ∃ r' p' t', gCl g A r' p' t' ∧ p' < g.2.2.1 r' ∧ g.2.2.2 r' p' = 6 + g.2.1 r ∧ gFs g r' (p' + 1) t' t) := by
  have h2 := h.ind (C := fun r p t => gCl g A r p t ∧ (p = 0 → A r 0 t ∨ (gUs g r ∧ ∃ r' p' t', gCl g A r' p' t' ∧ p' < g.2.2.1 r' ∧ g.2.2.2 r' p' = 6 + g.2.1 r ∧ gFs g r' (p' + 1) t' t)))
    (fun r p t ha => ⟨gCl.sub ha, fun e => Or.inl (e ▸ ha)⟩) (fun r p t hc hp r' hu hx t' hf => ⟨gCl.closed r p t hc.1 hp r' hu hx t' hf, fun _ => Or.inr ⟨hu, r, p, t, hc.1, hp, hx, hf⟩⟩)
  exact h2.2 rfl
/-- what may begin below a name may begin at the name -/
theorem gFs_up {g : xGr} {r p t r' t' t0 : Int} (hp : p < g.2.2.1 r) (hu : gUs g r') (hx : g.2.2.2 r p = 6 + g.2.1 r') (hw : 0 ≤ g.2.1 r') (hf : gFs g r (p + 1) t t') (h : gFs g r' 0 t' t0) : gFs g r p t t0 := by
  have hxe : g.2.2.2 r p - 6 = g.2.1 r' := by omega
  rcases h with ⟨j, j1, j2, j3, j4⟩ | ⟨h1, rfl⟩
  · refine Or.inl ⟨p, Int.le_refl _, hp, fun k k1 k2 => by omega, Or.inr ⟨by omega, ?_⟩⟩
    rw [hxe]
    exact gFi.mk hu j1 j2 j3 j4
  · have he : 6 ≤ g.2.2.2 r p ∧ gEm g (g.2.2.2 r p - 6) := ⟨by omega, by rw [hxe]; exact gEm.mk hu h1⟩
    rcases hf with ⟨j, j1, j2, j3, j4⟩ | ⟨h2, h3⟩
    · refine Or.inl ⟨j, by omega, j2, fun k k1 k2 => ?_, j4⟩
      by_cases e : k = p
      · rw [e]; exact he
      · exact j3 k (by omega) k2
    · refine Or.inr ⟨fun k k1 k2 => ?_, h3⟩
      by_cases e : k = p
      · rw [e]; exact he
      · exact h2 k (by omega) k2
/-- a name that comes may be empty, or begins with a letter -/
theorem gProd {g : xGr} {x : Int} (h : gCm g x) (hw : gWf g) : gEm g x ∨ ∃ t, gFi g x t := by
  have key : ∀ x, gCm g x → gCm g x ∧ (gEm g x ∨ ∃ t, gFi g x t) := by
    intro x h
    refine h (fun x => gCm g x ∧ (gEm g x ∨ ∃ t, gFi g x t)) (fun r a b c => ?_)
    have hu : gUs g r := ⟨a, b, fun k k1 k2 => (c k k1 k2).imp id (fun q => q.1)⟩
    refine ⟨gCm.mk hu, ?_⟩
    have walk : ∀ (m : Nat) (q : Int), 0 ≤ q → q + m = g.2.2.1 r → (∀ k, 0 ≤ k → k < q → 6 ≤ g.2.2.2 r k ∧ gEm g (g.2.2.2 r k - 6)) → gEm g (g.2.1 r) ∨ ∃ t, gFi g (g.2.1 r) t := by
      intro m
      induction m with
      | zero => intro q q0 q1 q2; exact Or.inl (gEm.mk hu (fun k k1 k2 => q2 k k1 (by omega)))
      | succ m ih =>
        intro q q0 q1 q2
        rcases c q q0 (by omega) with c1 | ⟨-, c1⟩
        · exact Or.inr ⟨_, gFi.mk hu q0 (by omega) q2 (Or.inl ⟨c1, rfl⟩)⟩
        · by_cases c6 : g.2.2.2 r q < 6
          · exact Or.inr ⟨_, gFi.mk hu q0 (by omega) q2 (Or.inl ⟨c6, rfl⟩)⟩
          · rcases c1 with c1 | ⟨t, c1⟩
            · refine ih (q + 1) (by omega) (by omega) (fun k k1 k2 => ?_)
              by_cases e : k = q
              · rw [e]; exact ⟨by omega, c1⟩
              · exact q2 k k1 (by omega)
            · exact Or.inr ⟨t, gFi.mk hu q0 (by omega) q2 (Or.inr ⟨by omega, c1⟩)⟩
    have hl := ((hw.2.2 r a b).2.1).1
    exact walk (g.2.2.1 r).toNat 0 (by omega) (by omega) (fun k k1 k2 => by omega)
  exact (key x h).2
/-- behind any place of a rule in use something may follow -/
theorem gFs_some {g : xGr} (hw : gW g) {r : Int} (hr : gDm g r) (t : Int) : ∀ (m : Nat) (q : Int), 0 ≤ q → (r = 10 → 1 ≤ q) → q + m = g.2.2.1 r → ∃ t', gFs g r q t t' := by
  intro m
  induction m with
  | zero => intro q q0 _ q1; exact ⟨t, Or.inr ⟨fun k k1 k2 => by omega, rfl⟩⟩
  | succ m ih =>
    intro q q0 q10 q1
    by_cases c6 : g.2.2.2 r q < 6
    · exact ⟨_, Or.inl ⟨q, Int.le_refl _, by omega, fun k k1 k2 => by omega, Or.inl ⟨c6, rfl⟩⟩⟩
    · rcases hr with rfl | hu
      · have e1 := hw.2.1
        have := q10 rfl
        omega
      · have hc := (hu.2.2 q q0 (by omega)).resolve_left c6
        rcases gProd hc hw.1.1 with he | ⟨t', hf⟩
        · obtain ⟨t', h⟩ := ih (q + 1) (by omega) (fun _ => by omega) (by omega)
          refine ⟨t', ?_⟩
          have here : 6 ≤ g.2.2.2 r q ∧ gEm g (g.2.2.2 r q - 6) := ⟨by omega, he⟩
          rcases h with ⟨j, j1, j2, j3, j4⟩ | ⟨h2, h3⟩
          · refine Or.inl ⟨j, by omega, j2, fun k k1 k2 => ?_, j4⟩
            by_cases e : k = q
            · rw [e]; exact here
            · exact j3 k (by omega) k2
          · refine Or.inr ⟨fun k k1 k2 => ?_, h3⟩
            by_cases e : k = q
            · rw [e]; exact here
            · exact h2 k (by omega) k2
        · exact ⟨t', Or.inl ⟨q, Int.le_refl _, by omega, fun k k1 k2 => by omega, Or.inr ⟨by omega, hf⟩⟩⟩
-- ===== stacks: (state, symbol, letters), the top first; below lies state 0 =====
abbrev xSt : Type := List (Int × Int × Nat)
def tp (S : xSt) : Int := match S with
  | [] => 0
  | q :: _ => q.1
def wt (S : xSt) : Nat := (S.map (fun q => q.2.2)).sum
def pPath (a : auT) : xSt → Prop
  | [] => True
  | q :: S => (a.2.2 (12 * tp S + q.2.1) = q.1 ∧ 0 ≤ q.1 ∧ 0 ≤ q.2.1 ∧ q.2.1 < 12) ∧ pPath a S
/-- S with symbol x pushed, of w letters -/
def px (a : auT) (S : xSt) (x : Int) (w : Nat) : xSt := (a.2.2 (12 * tp S + x), x, w) :: S
theorem pPath.rg {g : xGr} {a : auT} (ho : auOk g a) : ∀ {S : xSt}, pPath a S → 0 ≤ tp S ∧ tp S < a.1 := by
  intro S
  induction S with
  | nil => intro _; exact ⟨Int.le_refl _, by show (0 : Int) < a.1; have := ho.2.1; omega⟩
  | cons q S ih =>
    rintro ⟨⟨h1, h2, h3, h4⟩, h5⟩
    obtain ⟨i1, i2⟩ := ih h5
    show 0 ≤ q.1 ∧ q.1 < a.1
    rcases ho.2.2.2 (tp S) q.2.1 i1 i2 h3 h4 with ⟨k1, -⟩ | ⟨k1, -⟩
    · omega
    · rw [h1] at k1; exact k1
theorem pPath.st {g : xGr} {a : auT} (ho : auOk g a) {q : Int × Int × Nat} {S : xSt} (h : pPath a (q :: S)) : a.2.1 q.1 = gCl g (gGo g (a.2.1 (tp S)) q.2.1) := by
  obtain ⟨⟨h1, h2, h3, h4⟩, h5⟩ := h
  obtain ⟨i1, i2⟩ := h5.rg ho
  rcases ho.2.2.2 (tp S) q.2.1 i1 i2 h3 h4 with ⟨k1, -⟩ | ⟨-, k1, -⟩
  · omega
  · rw [h1] at k1; exact k1
/-- an item ahead of symbol x: x may be pushed, the item goes on -/
theorem pPath.push {g : xGr} {a : auT} (ho : auOk g a) {S : xSt} (h : pPath a S) {r p t : Int} (hi : a.2.1 (tp S) r p t) (hp : 0 ≤ p ∧ p < g.2.2.1 r) (hx : 0 ≤ g.2.2.2 r p ∧ g.2.2.2 r p < 12) (w : Nat) : pPath a (px a S (g.2.2.2 r p) w) ∧ a.2.1 (tp (px a S (g.2.2.2 r p) w)) r (p + 1) t := by
  obtain ⟨i1, i2⟩ := h.rg ho
  have hgo : gGo g (a.2.1 (tp S)) (g.2.2.2 r p) r (p + 1) t := ⟨by omega, by rw [show p + 1 - 1 = p by omega]; exact hi, by rw [show p + 1 - 1 = p by omega]; exact hp.2, by rw [show p + 1 - 1 = p by omega]⟩
  rcases ho.2.2.2 (tp S) (g.2.2.2 r p) i1 i2 hx.1 hx.2 with ⟨-, k1⟩ | ⟨k0, k1, -⟩
  · exact absurd ⟨r, p + 1, t, hgo⟩ k1
  · refine ⟨⟨⟨rfl, k0.1, hx.1, hx.2⟩, h⟩, ?_⟩
    show a.2.1 (a.2.2 (12 * tp S + g.2.2.2 r p)) r (p + 1) t
    rw [k1]
    exact gCl.sub hgo
/-- an item behind its first symbol: that symbol is on top, the item stood below -/
theorem pPath.pop {g : xGr} {a : auT} (ho : auOk g a) {S : xSt} (h : pPath a S) {r p t : Int} (hi : a.2.1 (tp S) r p t) (hp : 1 ≤ p) : ∃ q S0, S = q :: S0 ∧ q.2.1 = g.2.2.2 r (p - 1) ∧ a.2.1 (tp S0) r (p - 1) t ∧ p - 1 < g.2.2.1 r := by
  cases S with
  | nil =>
    have h0 : a.2.1 0 r p t := hi
    rw [ho.1] at h0
    have := gCl_pos h0 hp
    have := this.2.1
    omega
  | cons q S =>
    have h0 : a.2.1 q.1 r p t := hi
    rw [h.st ho] at h0
    obtain ⟨k1, k2, k3, k4⟩ := gCl_pos h0 hp
    exact ⟨q, S, rfl, k4.symm, k2, k3⟩
theorem pPath.drop {a : auT} : ∀ (n : Nat) {S : xSt}, pPath a S → pPath a (S.drop n) := by
  intro n
  induction n with
  | zero => intro S h; exact h
  | succ n ih =>
    intro S h
    cases S with
    | nil => exact trivial
    | cons q S => exact ih h.2
/-- the item's own symbols are on top -/
theorem pPath.popn {g : xGr} {a : auT} (ho : auOk g a) : ∀ (n : Nat) {S : xSt} {r t : Int} {p : Int}, pPath a S → a.2.1 (tp S) r p t → p = n → n ≤ S.length ∧ a.2.1 (tp (S.drop n)) r 0 t := by
  intro n
  induction n with
  | zero => intro S r t p h hi hp; subst hp; exact ⟨Nat.zero_le _, hi⟩
  | succ n ih =>
    intro S r t p h hi hp
    obtain ⟨q, S0, rfl, -, h2, -⟩ := h.pop ho hi (by omega)
    obtain ⟨k1, k2⟩ := ih h.2 h2 (by omega)
    exact ⟨by rw [List.length_cons]; omega, k2⟩
theorem auItems {g : xGr} (hw : gW g) {a : auT} (ho : auOk g a) : ∀ {S : xSt}, pPath a S → itOk g (a.2.1 (tp S)) := by
  intro S
  induction S with
  | nil => intro _; show itOk g (a.2.1 0); rw [ho.1]; exact (itOk.a0 hw).cl hw
  | cons q S ih =>
    intro h
    show itOk g (a.2.1 q.1)
    rw [h.st ho]
    exact ((ih h.2).go _).cl hw
/-- no conflicts -/
def auC (g : xGr) (a : auT) : Prop := ∀ k, 0 ≤ k → k < a.1 → ¬ gCf g (a.2.1 k)
/-- a reduction by rule r: its symbols off, its name on -/
def rd (g : xGr) (a : auT) (S : xSt) (r : Int) : xSt := px a (S.drop (g.2.2.1 r).toNat) (6 + g.2.1 r) (wt (S.take (g.2.2.1 r).toNat))
def Red (g : xGr) (a : auT) (S : xSt) (t : Int) (S1 : xSt) : Prop := ∃ r, r ≠ 10 ∧ a.2.1 (tp S) r (g.2.2.1 r) t ∧ S1 = rd g a S r
def Shf (a : auT) (S : xSt) (t : Int) : Prop := t < 6 ∧ 0 ≤ a.2.2 (12 * tp S + t)
def Acc (a : auT) (S : xSt) (t : Int) : Prop := t = 6 ∧ a.2.1 (tp S) 10 1 6
theorem Red.fun {g : xGr} {a : auT} (ho : auOk g a) (hc : auC g a) {S S1 S2 : xSt} {t : Int} (h : pPath a S) (h1 : Red g a S t S1) (h2 : Red g a S t S2) : S1 = S2 := by
  obtain ⟨r, -, r1, rfl⟩ := h1
  obtain ⟨q, -, q1, rfl⟩ := h2
  obtain ⟨i1, i2⟩ := h.rg ho
  by_cases e : q = r
  · rw [e]
  · exact absurd ⟨r, t, r1, Or.inl ⟨q, e, q1⟩⟩ (hc _ i1 i2)
theorem Red.noShf {g : xGr} {a : auT} (ho : auOk g a) (hc : auC g a) {S S1 : xSt} {t : Int} (h : pPath a S) (ht : 0 ≤ t) (h1 : Red g a S t S1) : ¬ Shf a S t := by
  rintro ⟨s1, s2⟩
  obtain ⟨r, -, r1, -⟩ := h1
  obtain ⟨i1, i2⟩ := h.rg ho
  rcases ho.2.2.2 (tp S) t i1 i2 ht (by omega) with ⟨k1, -⟩ | ⟨-, -, q, p, t', k1, k2, k3, k4⟩
  · omega
  · exact hc _ i1 i2 ⟨r, t, r1, Or.inr ⟨q, p - 1, t', k2, k3, by rw [k4]; exact s1, k4⟩⟩
/-- n reductions, no stack higher than b -/
def Rc (g : xGr) (a : auT) (b : Nat) : Nat → xSt → Int → xSt → Prop
  | 0, S, _, S' => S = S' ∧ S.length ≤ b
  | n + 1, S, t, S' => S.length ≤ b ∧ ∃ S1, Red g a S t S1 ∧ Rc g a b n S1 t S'
theorem Rc.mono {g : xGr} {a : auT} {b b' : Nat} (hb : b ≤ b') : ∀ {n : Nat} {S S' : xSt} {t : Int}, Rc g a b n S t S' → Rc g a b' n S t S' := by
  intro n
  induction n with
  | zero => intro S S' t h; exact ⟨h.1, by have := h.2; omega⟩
  | succ n ih => rintro S S' t ⟨h1, S1, h2, h3⟩; exact ⟨by omega, S1, h2, ih h3⟩
theorem Rc.trans {g : xGr} {a : auT} {b : Nat} : ∀ {n m : Nat} {S S1 S2 : xSt} {t : Int}, Rc g a b n S t S1 → Rc g a b m S1 t S2 → Rc g a b (n + m) S t S2 := by
  intro n
  induction n with
  | zero => rintro m S S1 S2 t ⟨rfl, h⟩ h2; rw [Nat.zero_add]; exact h2
  | succ n ih =>
    rintro m S S1 S2 t ⟨h1, S3, h2, h3⟩ h4
    rw [show n + 1 + m = (n + m) + 1 by omega]
    exact ⟨h1, S3, h2, ih h3 h4⟩
theorem Rc.one {g : xGr} {a : auT} {b : Nat} {S S1 : xSt} {t : Int} (h : Red g a S t S1) (h1 : S.length ≤ b) (h2 : S1.length ≤ b) : Rc g a b 1 S t S1 := ⟨h1, S1, h, rfl, h2⟩
theorem Red.path {g : xGr} (hw : gW g) {a : auT} (ho : auOk g a) {S S1 : xSt} {t : Int} (h : pPath a S) (h1 : Red g a S t S1) : pPath a S1 := by
  obtain ⟨r, h10, r1, rfl⟩ := h1
  have hit := auItems hw ho h r _ t r1
  have hr := hit.1.rng hw
  have hu : gUs g r := hit.1.resolve_left h10
  obtain ⟨k1, k2⟩ := h.popn ho (g.2.2.1 r).toNat r1 (by omega)
  have hd := pPath.drop (g.2.2.1 r).toNat h
  have hpar : ∃ r' p' t', a.2.1 (tp (S.drop (g.2.2.1 r).toNat)) r' p' t' ∧ p' < g.2.2.1 r' ∧ g.2.2.2 r' p' = 6 + g.2.1 r := by
    generalize S.drop (g.2.2.1 r).toNat = S0 at k2 hd
    cases S0 with
    | nil =>
      have k3 : a.2.1 0 r 0 t := k2
      rw [ho.1] at k3
      rcases gCl_zero k3 with k4 | ⟨-, r', p', t', k4, k5, k6, -⟩
      · exact absurd k4.1 h10
      · exact ⟨r', p', t', by show a.2.1 0 r' p' t'; rw [ho.1]; exact k4, k5, k6⟩
    | cons q S0 =>
      have k3 : a.2.1 q.1 r 0 t := k2
      rw [hd.st ho] at k3
      rcases gCl_zero k3 with k4 | ⟨-, r', p', t', k4, k5, k6, -⟩
      · have := k4.1; omega
      · exact ⟨r', p', t', by show a.2.1 q.1 r' p' t'; rw [hd.st ho]; exact k4, k5, k6⟩
  obtain ⟨r', p', t', k4, k5, k6⟩ := hpar
  have hit2 := auItems hw ho hd r' p' t' k4
  have hl := (hw.1.1.2.2 r hu.1 hu.2.1).1
  have h9 := (hd.push ho k4 ⟨hit2.2.1.1, k5⟩ (by rw [k6]; omega) (wt (S.take (g.2.2.1 r).toNat))).1
  rw [k6] at h9
  exact h9
/-- where two runs come to a shift they come to the same -/
theorem Rc.fun {g : xGr} (hw : gW g) {a : auT} (ho : auOk g a) (hc : auC g a) {b b' : Nat} {t : Int} (ht : 0 ≤ t) : ∀ {n m : Nat} {S S1 S2 : xSt}, pPath a S → Rc g a b n S t S1 → Rc g a b' m S t S2 → Shf a S1 t → Shf a S2 t → S1 = S2 := by
  intro n
  induction n with
  | zero =>
    rintro m S S1 S2 hp ⟨rfl, -⟩ h2 s1 s2
    cases m with
    | zero => exact h2.1
    | succ m => obtain ⟨-, S3, h3, -⟩ := h2; exact absurd s1 (h3.noShf ho hc hp ht)
  | succ n ih =>
    rintro m S S1 S2 hp ⟨-, S3, h3, h4⟩ h2 s1 s2
    cases m with
    | zero => obtain ⟨rfl, -⟩ := h2; exact absurd s2 (h3.noShf ho hc hp ht)
    | succ m =>
      obtain ⟨-, S4, h5, h6⟩ := h2
      have := h3.fun ho hc hp h5
      subst this
      exact ih (h3.path hw ho hp) h4 h6 s1 s2
