/-! pure rows: what build's loop keeps -/
/-- regions that build leaves alone -/
def bKp (σ0 : xS) (R0 R : xR) (e3 e4 : Int) : Prop := (∀ a, (σ0 a).2.1 ≠ 0 → a ≠ 1 → a ≠ 3 → a ≠ 4 → a ≠ e3 → a ≠ e4 → ¬ (400 ≤ a ∧ a < 440) → (a < 1000 ∨ (σ0 a).2.1 ≠ 37) → R a = R0 a) ∧ ∀ j, j ≠ 10 → j ≠ 11 → R 1 j = R0 1 j
def bC (σ0 : xS) (R0 : xR) (e3 e4 f0 : Int) (G : xGr) (u υ : Int → Int) (m eU : Int) (capU : Nat) (σ : xS) (R : xR) (π : Int → Int) (e n : Int) (cap : Nat) (f1 : Int) : Prop := sx σ0 σ ∧ fr f1 σ ∧ f0 ≤ f1 ∧ dUs σ R G u m υ eU capU ∧ dPr G R ∧ dPl σ R π e n cap ∧ eU ≠ e ∧ (e = e4 ∨ f0 ≤ e) ∧ ((σ e).2.1 = 0 ∨ (σ e).2.1 = 38) ∧ bKp σ0 R0 R e3 e4
theorem dPl.rg {σ : xS} {R : xR} {π : Int → Int} {e n : Int} {cap : Nat} (h : dPl σ R π e n cap) {i : Int} (hi : 0 ≤ i ∧ i < n) : (σ (π i)).2 = (19, 0) ∧ (σ (π i + 1)).2 = (37, 7) ∧ 1000 ≤ π i := ⟨(h.2.2.2.2.1 i hi.1 hi.2).2.1, (h.2.2.2.2.1 i hi.1 hi.2).2.2.1, (h.2.2.2.2.1 i hi.1 hi.2).2.2.2⟩
theorem bC.mv {σ0 σ σ' : xS} {R0 R R' : xR} {e3 e4 f0 m eU e n e' n' f1 f2 sp : Int} {G : xGr} {u υ π π' : Int → Int} {capU cap cap' : Nat} (hf0 : fr f0 σ0) (hd1 : (σ0 1).2 = (17, 0)) (h4 : (σ0 4).2 = (4, 0)) (h : bC σ0 R0 e3 e4 f0 G u υ m eU capU σ R π e n cap f1) (hx : sx σ σ') (hf : fr f2 σ') (hff : f1 ≤ f2) (hP' : dPl σ' R' π' e' n' cap') (hn' : 0 < n') (he' : e' = e ∨ f1 ≤ e') (hsp : (σ' (sp + 1)).2 = (37, 7)) (hsp2 : 1000 ≤ sp) (hj : ∀ j, j ≠ 11 → R' 1 j = R 1 j) (hfr : ∀ a, (σ a).2.1 ≠ 0 → a ≠ 1 → a ≠ 4 → a ≠ e → a ≠ sp + 1 → R' a = R a) (hlow : ∀ a, 12 ≤ a → a ≤ 14 → (σ a).2.1 ≠ 0) : bC σ0 R0 e3 e4 f0 G u υ m eU capU σ' R' π' e' n' cap' f2 := by
  obtain ⟨a1, a2, a3, a4, a5, a6, a7, a8, a9, a10⟩ := h
  have hm := a4.1.1
  have hUe := (a4.2.1.arr (by omega)).1
  have eUlt : eU < f1 := a2.lt (by rw [hUe]; exact (by decide : (38 : Nat) ≠ 0))
  have he9 := a6.2.2.1
  have hu9 := a4.2.2.1
  have hd1' : (σ 1).2 = (17, 0) := by rw [a1.at hd1 (by decide)]; exact hd1
  have h4' : (σ 4).2 = (4, 0) := by rw [a1.at h4 (by decide)]; exact h4
  have spt : ∀ a, (σ a).2.1 ≠ 0 → a = sp + 1 → (σ a).2 = (37, 7) := fun a b1 b2 => by rw [← hx a (Or.inl b1), b2]; exact hsp
  have hUs : dUs σ' R' G u m υ eU capU := a4.mv hx (fun a => a = 1 ∨ a = 4 ∨ a = e ∨ (a = sp + 1 ∧ (σ a).2 = (37, 7))) (fun a b1 b2 => hfr a b1 (fun q => b2 (Or.inl q)) (fun q => b2 (Or.inr (Or.inl q))) (fun q => b2 (Or.inr (Or.inr (Or.inl q)))) (fun q => b2 (Or.inr (Or.inr (Or.inr ⟨q, spt a b1 q⟩))))) (fun a ha => by
    rcases ha with rfl | rfl | rfl | ⟨h1, h2⟩
    · rw [hd1']; exact ⟨by decide, by decide, by decide, by omega⟩
    · rw [h4']; exact ⟨by decide, by decide, by decide, by omega⟩
    · exact ⟨by omega, by omega, by omega, fun q => a7 q.symm⟩
    · rw [h2]; exact ⟨by omega, by show (37 : Nat) ≠ 18; decide, by show (37 : Nat) ≠ 32; decide, fun q => by rw [q, hUe] at h2; cases h2⟩)
  have hl : ∀ a, 12 ≤ a → a ≤ 14 → R' a = R a := fun a b1 b2 => hfr a (hlow a b1 b2) (by omega) (by omega) (by omega) (by omega)
  refine ⟨a1.trans hx, hf, by omega, hUs, a5.keep (hl 12 (by decide) (by decide)) (hl 13 (by decide) (by decide)) (hl 14 (by decide) (by decide)), hP', by omega, by omega, Or.inr (by rw [(hP'.1.arr hn').1]), fun a b1 b2 b3 b4 b5 b6 b7 b8 => ?_, fun j j1 j2 => by rw [hj j j2]; exact a10.2 j j1 j2⟩
  have hal := hf0.lt b1
  have e1 : σ a = σ0 a := a1 a (Or.inl b1)
  rw [hfr a (by rw [e1]; exact b1) b2 b4 (by omega) (fun q => by
    rcases b8 with b8 | b8
    · omega
    · have := spt a (by rw [e1]; exact b1) q
      rw [e1] at this
      rw [this] at b8
      exact b8 rfl)]
  exact a10.1 a b1 b2 b3 b4 b5 b6 b7 b8
theorem bC.num {σ0 σ : xS} {R0 R R3 : xR} {e3 e4 f0 m eU e n f1 k y : Int} {G : xGr} {u υ π : Int → Int} {capU cap : Nat} (hd1 : (σ0 1).2 = (17, 0)) (hlr : (σ0 (400 + k)).2 = (36, 13)) (h : bC σ0 R0 e3 e4 f0 G u υ m eU capU σ R π e n cap f1) (hk : 0 ≤ k ∧ k < 40) (hn : dNx R π k y R3) : bC σ0 R0 e3 e4 f0 G u υ m eU capU σ R3 π e n cap f1 := by
  obtain ⟨a1, a2, a3, a4, a5, a6, a7, a8, a9, a10⟩ := h
  obtain ⟨k1, k2⟩ := hn.kp hk.1
  have hu9 := a4.2.2.1
  have he9 := a6.2.2.1
  have hd1' : (σ 1).2 = (17, 0) := by rw [a1.at hd1 (by decide)]; exact hd1
  have hlr' : (σ (400 + k)).2 = (36, 13) := by rw [a1.at hlr (by decide)]; exact hlr
  refine ⟨a1, a2, a3, a4.mv sx.rf (fun a => a = 1 ∨ a = 400 + k) (fun a b1 b2 => k1 a (fun q => b2 (Or.inl q)) (fun q => b2 (Or.inr q))) (fun a ha => ?_), a5.keep (k1 12 (by omega) (by omega)) (k1 13 (by omega) (by omega)) (k1 14 (by omega) (by omega)), a6.ext sx.rf (k1 4 (by omega) (by omega)) (fun _ => k1 e (by omega) (by omega)), a7, a8, a9, fun a b1 b2 b3 b4 b5 b6 b7 b8 => ?_, fun j j1 j2 => by rw [k2 j j1]; exact a10.2 j j1 j2⟩
  · rcases ha with rfl | rfl
    · rw [hd1']; exact ⟨by decide, by decide, by decide, by omega⟩
    · rw [hlr']; exact ⟨by omega, by decide, by decide, by omega⟩
  · rw [k1 a b2 (by omega)]
    exact a10.1 a b1 b2 b3 b4 b5 b6 b7 b8
