/-! the desk: the list of the used rules (build's beginning) -/
theorem dRu.mv {σ σ' : xS} {R R' : xR} {g : xGr} {ρ : Int → Int} {e : Int} {cap : Nat} (h : dRu σ R g ρ e cap) (hx : sx σ σ') (P : Int → Prop) (hR : ∀ a, (σ a).2.1 ≠ 0 → ¬ P a → R' a = R a) (hP : ∀ a, P a → a ≠ 2 ∧ (σ a).2.1 ≠ 18 ∧ (σ a).2.1 ≠ 32 ∧ a ≠ e) : dRu σ' R' g ρ e cap := by
  refine h.ext hx (hR 2 (by rw [h.2.1.1]; decide) (fun q => (hP 2 q).1 rfl)) (fun h0 => hR e (by rw [(h.2.1.arr h0).1]; exact (by decide : (38 : Nat) ≠ 0)) (fun q => (hP e q).2.2.2 rfl)) (fun j j0 j1 => ?_)
  have hr := (h.2.2.2 j j0 j1).2.1
  exact ⟨hR _ (by rw [hr.1]; decide) (fun q => (hP _ q).2.1 (by rw [hr.1])), hR _ (by rw [hr.2.1]; exact (by decide : (32 : Nat) ≠ 0)) (fun q => (hP _ q).2.2.1 (by rw [hr.2.1]))⟩
theorem rlI.cg {σ : xS} {R : xR} {k l l' : Int} {n n' : Nat} {s s' : Int → Int} (h : rlI σ R k l n s) (hl : l' = l) (hn : n' = n) (hs : ∀ i, 0 ≤ i → i < (n : Int) → s' i = s i) : rlI σ R k l' n' s' := by
  rw [hl, hn]
  obtain ⟨h1, h2, h3, h4, h5, h6⟩ := h
  exact ⟨h1, h2, h3, h4, h5, fun i i0 i1 => by rw [hs i i0 i1]; exact h6 i i0 i1⟩
/-- the used ones among the first k rules -/
def uPk (G : xGr) (k : Int) (u : Int → Int) (m : Int) : Prop := (1 ≤ m ∧ m ≤ k + 1) ∧ u 0 = 10 ∧ (∀ j, 1 ≤ j → j < m → gUs G (u j) ∧ u j < k) ∧ (∀ i j, 0 ≤ i → i < m → 0 ≤ j → j < m → u i = u j → i = j) ∧ ∀ r, gUs G r → r < k → ∃ j, 1 ≤ j ∧ j < m ∧ u j = r
theorem uPk.zero {G : xGr} : uPk G 0 (fun _ => 10) 1 := ⟨by omega, rfl, fun j a b => by omega, fun i j a b c d _ => by omega, fun r q h => by have := q.1; omega⟩
theorem uPk.no {G : xGr} {k m : Int} {u : Int → Int} (h : uPk G k u m) (hn : ¬ gUs G k) : uPk G (k + 1) u m := ⟨by have := h.1; omega, h.2.1, fun j a b => ⟨(h.2.2.1 j a b).1, by have := (h.2.2.1 j a b).2; omega⟩, h.2.2.2.1, fun r q hr => h.2.2.2.2 r q (by
  have : r ≠ k := fun e => hn (e ▸ q)
  omega)⟩
theorem uPk.yes {G : xGr} {k m : Int} {u : Int → Int} (h : uPk G k u m) (hk : k < 10) (hy : gUs G k) : uPk G (k + 1) (up1 u m k) (m + 1) := by
  obtain ⟨h1, h2, h3, h4, h5⟩ := h
  have hne : ∀ j, 0 ≤ j → j < m → u j ≠ k := fun j a b e => by
    by_cases c : j = 0
    · rw [c, h2] at e; omega
    · have := (h3 j (by omega) b).2; omega
  refine ⟨by omega, by rw [up1_n _ _ (by omega)]; exact h2, fun j a b => ?_, fun i j a b c d e => ?_, fun r q hr => ?_⟩
  · by_cases c : j = m
    · rw [c, up1_s]; exact ⟨hy, by omega⟩
    · rw [up1_n _ _ c]; exact ⟨(h3 j a (by omega)).1, by have := (h3 j a (by omega)).2; omega⟩
  · by_cases c1 : i = m <;> by_cases c2 : j = m
    · omega
    · rw [c1, up1_s, up1_n _ _ c2] at e; exact absurd e.symm (hne j c (by omega))
    · rw [c2, up1_s, up1_n _ _ c1] at e; exact absurd e (hne i a (by omega))
    · rw [up1_n _ _ c1, up1_n _ _ c2] at e; exact h4 i j a (by omega) c (by omega) e
  · by_cases c : r = k
    · exact ⟨m, by omega, by omega, by rw [up1_s, c]⟩
    · obtain ⟨j, a, b, e⟩ := h5 r q (by omega)
      exact ⟨j, a, by omega, by rw [up1_n _ _ (by omega)]; exact e⟩
theorem uPk.done {G : xGr} {k m : Int} {u : Int → Int} (h : uPk G k u m) (hk : k = G.1) (h10 : G.1 ≤ 10) : uOk G u m := ⟨by have := h.1; omega, h.2.1, fun j a b => (h.2.2.1 j a b).1, h.2.2.2.1, fun r q => h.2.2.2.2 r q (by rw [hk]; exact q.2.1)⟩
/-- where the j-th used rule lies -/
def uRg (f : Int) (ρ u : Int → Int) (j : Int) : Int := if j = 0 then f else ρ (u j)
/-- the list of the used rules in the making -/
def dUp (σ : xS) (R : xR) (g : xGr) (ρ : Int → Int) (f k : Int) (u : Int → Int) (m e : Int) (cap : Nat) : Prop := uPk (gP g) k u m ∧ alI σ R 3 e m cap ∧ (cap = 0 ∨ 10 ≤ cap) ∧ 1000 ≤ e ∧ rlI σ R f 6 1 (fun _ => 6 + g.2.1 0) ∧ ∀ j, 0 ≤ j → j < m → R e j = ((σ (uRg f ρ u j)).1 : Int) + 1
/-- what build's first loop keeps -/
def dUl (σ0 : xS) (R0 : xR) (g : xGr) (ρ : Int → Int) (e2 : Int) (cap2 : Nat) (e3 f k : Int) (σ : xS) (R : xR) (u : Int → Int) (m e : Int) (cap : Nat) (f1 : Int) : Prop := sx σ0 σ ∧ fr f1 σ ∧ f < f1 ∧ dRu σ R g ρ e2 cap2 ∧ dPr g R ∧ dUp σ R g ρ f k u m e cap ∧ e2 ≠ e ∧ (e = e3 ∨ f ≤ e) ∧ ∀ a, (σ0 a).2.1 ≠ 0 → a ≠ 3 → a ≠ e3 → R a = R0 a
theorem dUp.done {σ : xS} {R : xR} {g : xGr} {ρ : Int → Int} {f : Int} {u : Int → Int} {m e : Int} {cap cap2 : Nat} {e2 : Int} (h : dUp σ R g ρ f g.1 u m e cap) (hR : dRu σ R g ρ e2 cap2) (hf : 1000 ≤ f) : dUs σ R (gP g) u m (uRg f ρ u) e cap := by
  obtain ⟨h1, h2, h3, h4, h5, h6⟩ := h
  have hw := hR.1
  refine ⟨h1.done rfl hw.2.1, h2, h4, fun j j0 j1 => ⟨h6 j j0 j1, ?_⟩⟩
  unfold uRg
  by_cases c : j = 0
  · rw [if_pos c, c, h1.2.1]
    exact ⟨h5.cg rfl rfl (fun i i0 i1 => by show (if 4 * 10 + i = 40 then 6 + g.2.1 0 else g.2.2.2 10 i) = _; rw [if_pos (by omega)]), hf, by show (0 : Int) ≤ 1; omega⟩
  · rw [if_neg c]
    obtain ⟨q1, q2⟩ := h1.2.2.1 j (by omega) j1
    obtain ⟨r1, r2, r3⟩ := hR.2.2.2 (u j) q1.1 q2
    have hl := (hw.2.2 (u j) q1.1 q2).2.1
    have h10 := hw.2.1
    have e1 : (gP g).2.1 (u j) = g.2.1 (u j) := if_neg (by omega)
    have e2 : (gP g).2.2.1 (u j) = g.2.2.1 (u j) := (if_neg (by omega)).trans (if_neg (by omega))
    exact ⟨r2.cg e1 (by rw [e2]) (fun i i0 i1 => if_neg (by omega)), r3, by rw [e2]; exact hl.1⟩
theorem raw_Rule : ∀ j, j < 2 → xkd 2 j < 3 ∧ defaultValue (t_Rule j) = xdv (xkd 2 j) := by decide
theorem w_clR : Cond.classLink "RepairDesk" 123 "RepairDesk$Rule" ∈ xtb := xin 571 (by decide +kernel) (by decide +kernel)
theorem w_inR : Cond.instantiable "RepairDesk$Rule" 2 ∈ xtb := xin 572 (by decide +kernel) (by decide +kernel)
theorem w_iniR : Cond.initialized "RepairDesk$Rule" ∈ xtb := xin 21 (by decide +kernel) (by decide +kernel)
theorem dUp.el {σ : xS} {R : xR} {g : xGr} {ρ : Int → Int} {f k : Int} {u : Int → Int} {m e : Int} {cap cap2 : Nat} {e2 : Int} (h : dUp σ R g ρ f k u m e cap) (hR : dRu σ R g ρ e2 cap2) (hn : m = cap) : elOk σ R e cap := by
  intro i i0 i1
  refine Or.inr ⟨uRg f ρ u i, 18, 0, ?_, h.2.2.2.2.2 i i0 (by omega), by decide⟩
  unfold uRg
  by_cases c : i = 0
  · rw [if_pos c]; exact h.2.2.2.2.1.1
  · rw [if_neg c]
    obtain ⟨q1, q2⟩ := h.1.2.2.1 i (by omega) (by omega)
    exact (hR.2.2.2 (u i) q1.1 q1.2.1).2.1.1
/-- a rule more comes to the list -/
theorem dUl.add {σ0 σ σ' : xS} {R0 R R' : xR} {g : xGr} {ρ u : Int → Int} {e2 e3 f k m e f1 : Int} {cap2 cap : Nat} (h : dUl σ0 R0 g ρ e2 cap2 e3 f k σ R u m e cap f1) (hf0 : fr f σ0) (hk : 0 ≤ k ∧ k < g.1) (hy : gUs g k) (ha : adI σ R 3 e f1 m cap (σ (ρ k)).1 σ' R') : ∃ (e' : Int) (cap' : Nat), dUl σ0 R0 g ρ e2 cap2 e3 f (k + 1) σ' R' (up1 u m k) (m + 1) e' cap' (f1 + 1) := by
  obtain ⟨a1, a2, a3, a4, a5, a6, a7, a8, a9⟩ := h
  obtain ⟨e', cap', y1, y2, y3, y4, y5⟩ := ha
  have hm := a6.1.1
  have hAe := (a6.2.1.arr (by omega)).1
  have hw := a4.1
  have hel : e < f1 := a2.lt (by rw [hAe]; exact (by decide : (38 : Nat) ≠ 0))
  have hf9 := a2.1
  have hx : sx σ σ' := by
    rcases y2 with ⟨-, -, -, h⟩ | ⟨-, -, -, q, h⟩
    · rw [h]; exact sx.rf
    · rw [h]; exact sx.new (by omega) (a2.2 f1 (Int.le_refl _))
  have hfr : fr (f1 + 1) σ' := by
    rcases y2 with ⟨-, -, -, h⟩ | ⟨-, -, -, q, h⟩
    · rw [h]; exact a2.mono (by omega)
    · rw [h]; exact a2.new (by omega) (by omega)
  have he : e' = e ∨ e' = f1 := y2.imp (fun h => h.1) (fun h => h.1)
  have hkp : ∀ a, (σ a).2.1 ≠ 0 → a ≠ 3 → a ≠ e → R' a = R a := fun a b1 b2 b3 => by
    have := a2.lt b1
    exact y5 a b2 (by omega) (by omega)
  have hRu : dRu σ' R' g ρ e2 cap2 := a4.mv hx (fun a => a = 3 ∨ a = e) (fun a b1 b2 => hkp a b1 (fun q => b2 (Or.inl q)) (fun q => b2 (Or.inr q))) (fun a ha => by
    rcases ha with rfl | rfl
    · rw [a6.2.1.1]; exact ⟨by decide, by decide, by decide, by have := a4.2.2.1; omega⟩
    · rw [hAe]; exact ⟨by have := a6.2.2.2.1; omega, by show (38 : Nat) ≠ 18; decide, by show (38 : Nat) ≠ 32; decide, fun q => a7 q.symm⟩)
  have hw3 := a6.2.2.2.2.1
  have he1 := a6.2.2.2.1
  have hkp0 : ∀ a, a < 1000 → a ≠ 3 → R' a = R a := fun a b1 b2 => y5 a b2 (by omega) (by omega)
  have hf1 := hf0.1
  have hpr : dPr g R' := a5.keep (hkp0 12 (by decide) (by decide)) (hkp0 13 (by decide) (by decide)) (hkp0 14 (by decide) (by decide))
  refine ⟨e', cap', a1.trans hx, hfr, by omega, hRu, hpr, ⟨a6.1.yes (by have := hw.2.1; omega) (((gP.e hw).us k).mp hy), y1, ?_, by have := a6.2.2.2.1; omega, ?_, fun j j0 j1 => ?_⟩, by
    have := a4.2.2.1
    rcases he with q | q
    · rw [q]; exact a7
    · have : e2 < f1 := a2.lt (by rw [(a4.2.1.arr (by omega)).1]; exact (by decide : (38 : Nat) ≠ 0))
      omega, by omega, fun a b1 b2 b3 => ?_⟩
  · rcases y2 with ⟨-, h, -⟩ | ⟨-, h, -⟩
    · rw [h]; exact a6.2.2.1
    · refine Or.inr ?_
      rw [h]
      unfold nwc
      rcases a6.2.2.1 with h2 | h2
      · rw [if_pos h2]; exact Nat.le_refl _
      · rw [if_neg (by omega)]; omega
  · exact hw3.ext hx (hkp f (by rw [hw3.1]; decide) (by omega) (fun q => by rw [← q, hw3.1] at hAe; cases hAe)) (hkp (f + 1) (by rw [hw3.2.1]; decide) (by omega) (fun q => by rw [← q, hw3.2.1] at hAe; cases hAe))
  · have hrk := (a4.2.2.2 k hk.1 hk.2).2.1
    by_cases c : j = m
    · unfold uRg
      rw [if_neg (by omega), c, y4, up1_s, hx.at hrk.1 (by decide)]
    · have e1 : uRg f ρ (up1 u m k) j = uRg f ρ u j := by
        unfold uRg
        rw [up1_n _ _ c]
      rw [y3 j j0 (by omega), a6.2.2.2.2.2 j j0 (by omega), e1]
      have ht : (σ (uRg f ρ u j)).2 = (18, 0) := by
        unfold uRg
        by_cases c2 : j = 0
        · rw [if_pos c2]; exact hw3.1
        · rw [if_neg c2]
          obtain ⟨q1, q2⟩ := a6.1.2.2.1 j (by omega) (by omega)
          exact (a4.2.2.2 (u j) q1.1 q1.2.1).2.1.1
      rw [hx.at ht (by decide)]
  · have h1 : σ a = σ0 a := a1 a (Or.inl b1)
    have h2 := hf0.lt b1
    rw [hkp a (by rw [h1]; exact b1) b2 (by omega)]
    exact a9 a b1 b2 b3
