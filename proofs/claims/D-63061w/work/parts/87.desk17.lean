/-! the desk: compile -/
/-- the desk's three lists -/
def dBs (σ : xS) (R : xR) (g : xGr) (ρ : Int → Int) (e2 : Int) (cap2 : Nat) (e3 n3 : Int) (cap3 : Nat) (π : Int → Int) (e4 n4 : Int) (cap4 : Nat) (f : Int) : Prop := dSh σ ∧ fr f σ ∧ dRu σ R g ρ e2 cap2 ∧ (cap2 = 0 ∨ 10 ≤ cap2) ∧ alI σ R 3 e3 n3 cap3 ∧ (cap3 = 0 ∨ 10 ≤ cap3) ∧ dPl σ R π e4 n4 cap4 ∧ lsN σ e2 e3 e4 f
/-- compiled: the used rules, the leads, how many states and items -/
def dCmp (σ : xS) (R : xR) (g : xGr) (e3 n3 : Int) (cap3 : Nat) (a : auT) : Prop := dCo (gP g) a ∧ R 1 10 = a.1 ∧ R 1 13 = sumF (fun k => aCt (a.2.1 k)) a.1.toNat ∧ ∃ u υ, dUs σ R (gP g) u n3 υ e3 cap3 ∧ dLd (gP g) a u n3 R
/-- it threw an exception of type t -/
def thr (o : Outcome) (σ : xS) (t : Nat) : Prop := ∃ (q : Nat) (k : Int), o = .threw q ∧ (σ k).2 = (t, 0) ∧ (σ k).1 = q
/-- regions that compile leaves alone -/
def cKp (σ0 : xS) (R0 R : xR) (e3 e4 : Int) : Prop := (∀ a, (σ0 a).2.1 ≠ 0 → a ≠ 1 → a ≠ 3 → a ≠ 4 → a ≠ e3 → a ≠ e4 → ¬ (12 ≤ a ∧ a ≤ 14) → ¬ (400 ≤ a ∧ a < 440) → (a < 1000 ∨ (σ0 a).2.1 ≠ 37) → R a = R0 a) ∧ ∀ j, j ≠ 10 → j ≠ 11 → j ≠ 12 → j ≠ 13 → j ≠ 21 → j ≠ 22 → R 1 j = R0 1 j
theorem dRu.cKp {σ σ' : xS} {R R' : xR} {g : xGr} {ρ : Int → Int} {e2 e3 e4 f : Int} {cap2 : Nat} (h : dRu σ R g ρ e2 cap2) (hx : sx σ σ') (hl : lsN σ e2 e3 e4 f) (hk : cKp σ R R' e3 e4) : dRu σ' R' g ρ e2 cap2 := by
  obtain ⟨⟨l1, l2, l3⟩, ⟨l4, l5, l6⟩, ⟨l7, l8, l9⟩, l10, l11, l12⟩ := hl
  refine h.ext hx (hk.1 2 (by rw [h.2.1.1]; decide) (by decide) (by decide) (by decide) (by omega) (by omega) (by omega) (by omega) (Or.inl (by decide))) (fun h0 => ?_) (fun i i0 i1 => ?_)
  · have := (h.2.1.arr h0).1
    exact hk.1 e2 (by rw [this]; exact (by decide : (38 : Nat) ≠ 0)) (by omega) (by omega) (by omega) l1 l2 (by omega) (by omega) (Or.inr (by rw [this]; exact (by decide : (38 : Nat) ≠ 37)))
  · obtain ⟨-, r2, r3⟩ := h.2.2.2 i i0 i1
    have h1 := r2.1
    have h2 := r2.2.1
    refine ⟨hk.1 _ (by rw [h1]; decide) (by omega) (by omega) (by omega) (fun q => by rw [q] at h1; rw [h1] at l11; rcases l11 with l | l <;> cases l) (fun q => by rw [q] at h1; rw [h1] at l12; rcases l12 with l | l <;> cases l) (by omega) (by omega) (Or.inr (by rw [h1]; decide)), hk.1 _ (by rw [h2]; exact (by decide : (32 : Nat) ≠ 0)) (by omega) (by omega) (by omega) (fun q => by rw [q] at h2; rw [h2] at l11; rcases l11 with l | l <;> cases l) (fun q => by rw [q] at h2; rw [h2] at l12; rcases l12 with l | l <;> cases l) (by omega) (by omega) (Or.inr (by rw [h2]; exact (by decide : (32 : Nat) ≠ 37)))⟩
/-- an exception comes: the lists stay -/
theorem dBs.exc {σ : xS} {R : xR} {g : xGr} {ρ : Int → Int} {e2 : Int} {cap2 : Nat} {e3 n3 : Int} {cap3 : Nat} {π : Int → Int} {e4 n4 : Int} {cap4 : Nat} {f : Int} (h : dBs σ R g ρ e2 cap2 e3 n3 cap3 π e4 n4 cap4 f) (q : Nat × Nat × Nat) (w : Int → Int) : dBs (xsu σ f q) (xru R f w) g ρ e2 cap2 e3 n3 cap3 π e4 n4 cap4 (f + 1) ∧ sx σ (xsu σ f q) := by
  obtain ⟨h1, h2, h3, h4, h5, h6, h7, ⟨⟨l1, l2, l3⟩, ⟨l4, l5, l6⟩, ⟨l7, l8, l9⟩, l10, l11, l12⟩⟩ := h
  have hf := h2.1
  have hx : sx σ (xsu σ f q) := sx.new (by omega) (h2.2 f (Int.le_refl _))
  have k1 : ∀ a, a ≠ f → xru R f w a = R a := fun a ha => xru_ne _ _ ha
  refine ⟨⟨h1.ext hx, h2.new (by omega) (by omega), h3.ext hx (k1 2 (by omega)) (fun _ => k1 e2 (by omega)) (fun i i0 i1 => ?_), h4, h5.ext hx (k1 3 (by omega)), h6, h7.ext hx (k1 4 (by omega)) (fun _ => k1 e4 (by omega)), ⟨l1, l2, l3⟩, ⟨l4, l5, l6⟩, ⟨by omega, by omega, by omega⟩, by rw [xsu_ne _ _ (by omega)]; exact l10, by rw [xsu_ne _ _ (by omega)]; exact l11, by rw [xsu_ne _ _ (by omega)]; exact l12⟩, hx⟩
  obtain ⟨-, r2, r3⟩ := h3.2.2.2 i i0 i1
  have a1 := h2.lt (a := ρ i) (by rw [r2.1]; decide)
  have a2 := h2.lt (a := ρ i + 1) (by rw [r2.2.1]; exact (by decide : (32 : Nat) ≠ 0))
  exact ⟨k1 _ (by omega), k1 _ (by omega)⟩
def cmO (o : Outcome) (σ : xS) (R : xR) (g : xGr) (e3 n3 : Int) (cap3 : Nat) : Prop := (¬ gCm g (g.2.1 0) ∧ thr o σ 10 ∧ R 1 12 = 0) ∨ (gCm g (g.2.1 0) ∧ ∃ a, auF (gP g) a ∧ ((auBad (gP g) a ∧ thr o σ 10 ∧ R 1 12 = 0) ∨ (¬ auBad (gP g) a ∧ o = .returned (some (vi a.1)) ∧ R 1 12 = 1 ∧ dCmp σ R g e3 n3 cap3 a)))
def cmZ (σ : xS) (R : xR) (g : xGr) (ρ : Int → Int) (cap2 : Nat) (e3 e4 : Int) : xZ := fun o σ' R' => ∃ (e2' e3' n3' : Int) (cap3' : Nat) (π' : Int → Int) (e4' n4' : Int) (cap4' : Nat) (f' : Int), dBs σ' R' g ρ e2' cap2 e3' n3' cap3' π' e4' n4' cap4' f' ∧ sx σ σ' ∧ cKp σ R R' e3 e4 ∧ (0 ≤ R' 1 10 ∧ R' 1 10 ≤ 40) ∧ ((g.1 = 0 ∧ thr o σ' 9 ∧ ∀ j, R' 1 j = R 1 j) ∨ (g.1 ≠ 0 ∧ R' 1 21 = 0 ∧ R' 1 22 = 0 ∧ cmO o σ' R' g e3' n3' cap3'))
theorem cKp.tr {σ : xS} {R R1 R2 : xR} {e3 e4 : Int} (h : cKp σ R R1 e3 e4) (h1 : bKp σ R1 R2 e3 e4) : cKp σ R R2 e3 e4 := ⟨fun a b1 b2 b3 b4 b5 b6 b7 b8 b9 => by rw [h1.1 a b1 b2 b3 b4 b5 b6 b8 b9]; exact h.1 a b1 b2 b3 b4 b5 b6 b7 b8 b9, fun j j1 j2 j3 j4 j5 j6 => by rw [h1.2 j j1 j2]; exact h.2 j j1 j2 j3 j4 j5 j6⟩
theorem cKp.up {σ : xS} {R R1 R2 : xR} {e3 e4 : Int} (h : cKp σ R R1 e3 e4) (h1 : ∀ a, a ≠ 1 → ¬ (400 ≤ a ∧ a < 440) → (σ a).2.1 ≠ 0 → R2 a = R1 a) (h2 : ∀ j, j ≠ 12 → j ≠ 13 → R2 1 j = R1 1 j) : cKp σ R R2 e3 e4 := ⟨fun a b1 b2 b3 b4 b5 b6 b7 b8 b9 => by rw [h1 a b2 b8 b1]; exact h.1 a b1 b2 b3 b4 b5 b6 b7 b8 b9, fun j j1 j2 j3 j4 j5 j6 => by rw [h2 j j3 j4]; exact h.2 j j1 j2 j3 j4 j5 j6⟩
/-- throwing at the end: an exception at region f -/
theorem v_D_cthr {X : xCtx} {Z : xZ} {σ : xS} {R : xR} {g : xGr} {ρ : Int → Int} {e2 : Int} {cap2 : Nat} {e3 n3 : Int} {cap3 : Nat} {π : Int → Int} {e4 n4 : Int} {cap4 : Nat} {f : Int} (h : dBs σ R g ρ e2 cap2 e3 n3 cap3 π e4 n4 cap4 f) (L : List (Option Value)) (cn sn : Nat) (hcn : cn + 1 ≤ 1600) (hsn : sn + 6 ≤ 38500)
    (fin : ∀ (q : Nat), dBs (xsu σ f (q, 10, 0)) (xru R f (fun _ => 0)) g ρ e2 cap2 e3 n3 cap3 π e4 n4 cap4 (f + 1) → sx σ (xsu σ f (q, 10, 0)) → thr (.threw q) (xsu σ f (q, 10, 0)) 10 → Z (.threw q) (xsu σ f (q, 10, 0)) (xru R f (fun _ => 0))) : V X m_D_compile (11, 1600, 38500, Z) σ R cn sn 99 L [] :=
  x_throwNew f 10 (ci := 9) (by have := h.2.1.1; omega) (h.2.1.2 f (Int.le_refl _)) (by decide) rfl ew_UOE d_D_compile_99 d_D_compile_102 d_D_compile_103 d_D_compile_106 (by decide +kernel) (lr rfl) ⟨hcn, hsn⟩ (lr rfl) (fun q => fin q (h.exc _ _).1 (h.exc _ (fun _ => 0)).2 ⟨q, f, rfl, by rw [xsu_self], by rw [xsu_self]⟩)
