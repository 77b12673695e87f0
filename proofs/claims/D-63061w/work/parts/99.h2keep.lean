/-! the law: what moves without harm -/
theorem dBs.kp {σ : xS} {R R' : xR} {g : xGr} {ρ : Int → Int} {e2 : Int} {cap2 : Nat} {e3 n3 : Int} {cap3 : Nat} {π : Int → Int} {e4 n4 : Int} {cap4 : Nat} {f : Int} (h : dBs σ R g ρ e2 cap2 e3 n3 cap3 π e4 n4 cap4 f) (hk : ∀ a, (a = 2 ∨ a = 3 ∨ a = 4 ∨ 1000 ≤ a) → R' a = R a) : dBs σ R' g ρ e2 cap2 e3 n3 cap3 π e4 n4 cap4 f := by
  obtain ⟨p1, p2, p3, p4, p5, p6, p7, p8⟩ := h
  have := p8.2.1
  exact ⟨p1, p2, p3.keep (fun a h => hk a (by omega)), p4, p5.keep (hk 3 (by omega)), p6, p7.ext sx.rf (hk 4 (by omega)) (fun _ => hk e4 (by omega)), p8⟩
theorem dCmp.kp {σ : xS} {R R' : xR} {g : xGr} {e3 n3 : Int} {cap3 : Nat} {a : auT} (h : dCmp σ R g e3 n3 cap3 a) (hk : ∀ b, (b = 3 ∨ 1000 ≤ b ∨ (400 ≤ b ∧ b < 440)) → R' b = R b) (h10 : R' 1 10 = R 1 10) (h13 : R' 1 13 = R 1 13) : dCmp σ R' g e3 n3 cap3 a := by
  obtain ⟨c1, c2, c3, u, υ, c4, c5⟩ := h
  have hu := c4.2.2.1
  refine ⟨c1, h10.trans c2, h13.trans c3, u, υ, c4.keep (hk 3 (by omega)) (hk e3 (by omega)) (fun j j0 j1 => ?_), c5.keep c1.2.1.2.2.1 (fun k k0 k1 => hk _ (by omega))⟩
  have := (c4.2.2.2 j j0 j1).2.2.1
  exact ⟨hk _ (by omega), hk _ (by omega)⟩
theorem gM_kp {R R' : xR} (h3 : R' 30 3 = R 30 3) (h : ∀ b, (b = 35 ∨ b = 36 ∨ b = 37) → R' b = R b) : gM R' = gM R := by
  unfold gM
  rw [h3, h 35 (by omega), h 36 (by omega), h 37 (by omega)]
/-- all of it, with its names -/
def jA (σ : xS) (R : xR) (len : Nat) (ρ : Int → Int) (e2 : Int) (cap2 : Nat) (e3 n3 : Int) (cap3 : Nat) (π : Int → Int) (e4 n4 : Int) (cap4 : Nat) (f : Int) (n : Nat) (D : List (List Int × Int)) (a : auT) (e0 : xEn) : Prop := xsh σ mshape ∧ (σ 60).2 = (37, 1) ∧ jSc σ R len ∧ dBs σ R (gM R) ρ e2 cap2 e3 n3 cap3 π e4 n4 cap4 f ∧ jTy σ R n ∧ jTx R ∧ jCs R ∧ (∀ i, 0 ≤ i → i < 2310 → s7 (R 44 i)) ∧ (0 ≤ R 1 10 ∧ R 1 10 ≤ 40) ∧ jFd R D ∧ jCm σ R e3 n3 cap3 a D ∧ jRp R a D e0
theorem jAll_iff {σ : xS} {R : xR} {len : Nat} : jAll σ R len ↔ ∃ ρ e2 cap2 e3 n3 cap3 π e4 n4 cap4 f n D a e0, jA σ R len ρ e2 cap2 e3 n3 cap3 π e4 n4 cap4 f n D a e0 := Iff.rfl
/-- only places that no operation reads have moved -/
def jKp (R R' : xR) : Prop := (∀ a, a ≠ 16 → a ≠ 17 → a ≠ 18 → a ≠ 30 → a ≠ 49 → a ≠ 50 → a ≠ 57 → a ≠ 60 → R' a = R a) ∧ ∀ i, i ≠ 0 → i ≠ 27 → i ≠ 28 → R' 30 i = R 30 i
theorem jKp.trans {R R1 R2 : xR} (h : jKp R R1) (h1 : jKp R1 R2) : jKp R R2 := ⟨fun a b1 b2 b3 b4 b5 b6 b7 b8 => (h1.1 a b1 b2 b3 b4 b5 b6 b7 b8).trans (h.1 a b1 b2 b3 b4 b5 b6 b7 b8), fun i i0 i1 i2 => (h1.2 i i0 i1 i2).trans (h.2 i i0 i1 i2)⟩
theorem jKp.rf {R : xR} : jKp R R := ⟨fun _ _ _ _ _ _ _ _ _ => rfl, fun _ _ _ _ => rfl⟩
theorem jKp.fault {R R1 : xR} {v : Int} (e : R1 = xup R 30 0 v) : jKp R R1 := ⟨fun a _ _ _ b4 _ _ _ _ => by funext i; exact xr_o e b4, fun i i0 _ _ => xr_d e i0⟩
theorem jKp.out {R R1 : xR} {i v : Int} (e : R1 = xup R 60 i v) : jKp R R1 := ⟨fun a _ _ _ _ _ _ _ b8 => by funext j; exact xr_o e b8, fun j _ _ _ => xr_o e (by decide)⟩
theorem jA.scr {σ : xS} {R R' : xR} {len : Nat} {ρ : Int → Int} {e2 : Int} {cap2 : Nat} {e3 n3 : Int} {cap3 : Nat} {π : Int → Int} {e4 n4 : Int} {cap4 : Nat} {f : Int} {n : Nat} {D : List (List Int × Int)} {a : auT} {e0 : xEn} (h : jA σ R len ρ e2 cap2 e3 n3 cap3 π e4 n4 cap4 f n D a e0) (hk : jKp R R') : jA σ R' len ρ e2 cap2 e3 n3 cap3 π e4 n4 cap4 f n D a e0 := by
  obtain ⟨h1, h2, h3, h4, h5, h6, h7, h8, h9, h10, h11, h12⟩ := h
  have k : ∀ b, b ≠ 16 → b ≠ 17 → b ≠ 18 → b ≠ 30 → b ≠ 49 → b ≠ 50 → b ≠ 57 → b ≠ 60 → R' b = R b := hk.1
  have ki := hk.2
  have eg : gM R' = gM R := gM_kp (ki 3 (by decide) (by decide) (by decide)) (fun b hb => k b (by omega) (by omega) (by omega) (by omega) (by omega) (by omega) (by omega) (by omega))
  have e1 : R' 1 = R 1 := k 1 (by decide) (by decide) (by decide) (by decide) (by decide) (by decide) (by decide) (by decide)
  have e48 : R' 48 = R 48 := k 48 (by decide) (by decide) (by decide) (by decide) (by decide) (by decide) (by decide) (by decide)
  have e8 : R' 8 = R 8 := k 8 (by decide) (by decide) (by decide) (by decide) (by decide) (by decide) (by decide) (by decide)
  have e6 : R' 6 = R 6 := k 6 (by decide) (by decide) (by decide) (by decide) (by decide) (by decide) (by decide) (by decide)
  have e7 : R' 7 = R 7 := k 7 (by decide) (by decide) (by decide) (by decide) (by decide) (by decide) (by decide) (by decide)
  have e51 : R' 51 = R 51 := k 51 (by decide) (by decide) (by decide) (by decide) (by decide) (by decide) (by decide) (by decide)
  have e52 : R' 52 = R 52 := k 52 (by decide) (by decide) (by decide) (by decide) (by decide) (by decide) (by decide) (by decide)
  have e10 : R' 10 = R 10 := k 10 (by decide) (by decide) (by decide) (by decide) (by decide) (by decide) (by decide) (by decide)
  have e11 : R' 11 = R 11 := k 11 (by decide) (by decide) (by decide) (by decide) (by decide) (by decide) (by decide) (by decide)
  have e32 : R' 32 = R 32 := k 32 (by decide) (by decide) (by decide) (by decide) (by decide) (by decide) (by decide) (by decide)
  have e44 : R' 44 = R 44 := k 44 (by decide) (by decide) (by decide) (by decide) (by decide) (by decide) (by decide) (by decide)
  have e61 : R' 61 = R 61 := k 61 (by decide) (by decide) (by decide) (by decide) (by decide) (by decide) (by decide) (by decide)
  have x15 := ki 15 (by decide) (by decide) (by decide)
  have x16 := ki 16 (by decide) (by decide) (by decide)
  have x2 := ki 2 (by decide) (by decide) (by decide)
  have x22 := ki 22 (by decide) (by decide) (by decide)
  have x23 := ki 23 (by decide) (by decide) (by decide)
  have x12 := ki 12 (by decide) (by decide) (by decide)
  have eEn : mEnv R' = mEnv R := by unfold mEnv; rw [x15, e48, e51, e52, x16]
  refine ⟨h1, h2, ?_, ?_, ?_, ?_, ?_, ?_, ?_, ?_, ?_, ?_⟩
  · unfold jSc; rw [e61]; exact h3
  · rw [eg]; exact h4.kp (fun b hb => k b (by omega) (by omega) (by omega) (by omega) (by omega) (by omega) (by omega) (by omega))
  · unfold jTy sbI at *; rw [e10, e11, e32, x2]; exact h5
  · unfold jTx at *; rw [e1, x15, e8, e48]; exact h6
  · unfold jCs at *; rw [e6, e7, e51, e52]; exact h7
  · rw [e44]; exact h8
  · rw [e1]; exact h9
  · exact ⟨h10.1.kept x22 (fun p q hp => by rw [k p (by omega) (by omega) (by omega) (by omega) (by omega) (by omega) (by omega) (by omega)]), h10.2.1.keep (by rw [e1]) (fun b hb => k b (by omega) (by omega) (by omega) (by omega) (by omega) (by omega) (by omega) (by omega)), h10.2.2.1, by rw [e1, x23]; exact h10.2.2.2.1, by rw [e1]; exact h10.2.2.2.2⟩
  · rcases h11 with q | ⟨q1, q2, q3, q4⟩
    · exact Or.inl (by rw [e1, x12]; exact q)
    · refine Or.inr ⟨by rw [e1]; exact q1, by rw [x12]; exact q2, q3.keep (ki 3 (by decide) (by decide) (by decide)) x12 (fun p q hp => by rw [k p (by omega) (by omega) (by omega) (by omega) (by omega) (by omega) (by omega) (by omega)]), ?_⟩
      rw [eg]
      exact q4.kp (fun b hb => k b (by omega) (by omega) (by omega) (by omega) (by omega) (by omega) (by omega) (by omega)) (by rw [e1]) (by rw [e1])
  · unfold jRp at *
    rw [x16, eg, e48, x15, eEn]
    exact h12
/-- an exception comes -/
theorem jA.exc {σ : xS} {R : xR} {len : Nat} {ρ : Int → Int} {e2 : Int} {cap2 : Nat} {e3 n3 : Int} {cap3 : Nat} {π : Int → Int} {e4 n4 : Int} {cap4 : Nat} {f : Int} {n : Nat} {D : List (List Int × Int)} {a : auT} {e0 : xEn} (h : jA σ R len ρ e2 cap2 e3 n3 cap3 π e4 n4 cap4 f n D a e0) (q : Nat × Nat × Nat) (w : Int → Int) : jA (xsu σ f q) (xru R f w) len ρ e2 cap2 e3 n3 cap3 π e4 n4 cap4 (f + 1) n D a e0 := by
  obtain ⟨h1, h2, h3, h4, h5, h6, h7, h8, h9, h10, h11, h12⟩ := h
  have hf := h4.2.1
  have hf9 := hf.1
  have k : ∀ b, b < f → xru R f w b = R b := fun b hb => xru_ne _ _ (by omega)
  have s : ∀ b, b < f → xsu σ f q b = σ b := fun b hb => xsu_ne _ _ (by omega)
  obtain ⟨g1, g2⟩ := h4.exc q w
  have eg : gM (xru R f w) = gM R := gM_kp (by rw [k 30 (by omega)]) (fun b hb => k b (by omega))
  refine ⟨h1.ext (by decide) g2, by rw [s 60 (by omega)]; exact h2, ?_, by rw [eg]; exact g1, ?_, ?_, ?_, ?_, ?_, ?_, ?_, ?_⟩
  · unfold jSc; rw [k 61 (by omega), s 61 (by omega)]; exact h3
  · unfold jTy sbI at *; rw [k 10 (by omega), k 11 (by omega), k 32 (by omega), k 30 (by omega), s 10 (by omega), show (10 : Int) + 1 = 11 by rfl, s 11 (by omega)]; exact h5
  · unfold jTx at *; rw [k 1 (by omega), k 30 (by omega), k 8 (by omega), k 48 (by omega)]; exact h6
  · unfold jCs at *; rw [k 6 (by omega), k 7 (by omega), k 51 (by omega), k 52 (by omega)]; exact h7
  · rw [k 44 (by omega)]; exact h8
  · rw [k 1 (by omega)]; exact h9
  · exact ⟨h10.1.kept (by rw [k 30 (by omega)]) (fun p q hp => by rw [k p (by omega)]), h10.2.1.keep (by rw [k 1 (by omega)]) (fun b hb => k b (by omega)), h10.2.2.1, by rw [k 1 (by omega), k 30 (by omega)]; exact h10.2.2.2.1, by rw [k 1 (by omega)]; exact h10.2.2.2.2⟩
  · rcases h11 with q | ⟨q1, q2, q3, q4⟩
    · exact Or.inl (by rw [k 1 (by omega), k 30 (by omega)]; exact q)
    · refine Or.inr ⟨by rw [k 1 (by omega)]; exact q1, by rw [k 30 (by omega)]; exact q2, q3.keep (by rw [k 30 (by omega)]) (by rw [k 30 (by omega)]) (fun p q hp => by rw [k p (by omega)]), ?_⟩
      rw [eg]
      obtain ⟨c1, c2, c3, u, υ, c4, c5⟩ := q4
      have hl : e3 < f := h4.2.2.2.2.2.2.2.2.2.1.2.1
      have hu := c4.2.2.1
      refine ⟨c1, by rw [k 1 (by omega)]; exact c2, by rw [k 1 (by omega)]; exact c3, u, υ, c4.ext g2 (k 3 (by omega)) (k e3 hl) (fun j j0 j1 => ?_), c5.keep c1.2.1.2.2.1 (fun i i0 i1 => k _ (by omega))⟩
      have hr := (c4.2.2.2 j j0 j1).2.1
      exact ⟨k _ (hf.lt (by rw [hr.1]; decide)), k _ (hf.lt (by rw [hr.2.1]; exact (by decide : (32 : Nat) ≠ 0)))⟩
  · unfold jRp at *
    have eEn : mEnv (xru R f w) = mEnv R := by unfold mEnv; rw [k 30 (by omega), k 48 (by omega), k 51 (by omega), k 52 (by omega)]
    rw [k 30 (by omega), eg, k 48 (by omega), eEn]
    exact h12
