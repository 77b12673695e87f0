/-! the desk: <init> (printed by gen/dinit.py) -/
def dNl : List (Int × Nat × Nat × Nat) := [(2, 0, 4, 0), (3, 1, 4, 0), (10, 2, 21, 0), (11, 99, 35, 16), (5, 3, 42, 2), (6, 99, 32, 6), (7, 99, 32, 6), (8, 4, 32, 16), (12, 6, 33, 6), (13, 7, 33, 6), (14, 8, 32, 6), (4, 9, 4, 0), (15, 14, 43, 40), (16, 15, 32, 1000), (17, 16, 32, 30), (18, 17, 32, 6), (19, 18, 44, 41), (20, 19, 32, 41), (21, 20, 32, 41)]
/-- what a new region holds -/
def dFv (a k : Int) (R : xR) : Prop := if k = 2 ∨ k = 3 ∨ k = 4 then R k 0 = a + 1 ∧ R k 1 = 0 else if k = 10 then R k 1 = 0 ∧ R k 3 = 0 else if k = 6 ∨ k = 7 then ∀ i, 0 ≤ i → i < 6 → R k i = 1 else if k = 5 then True else ∀ i, R k i = 0
theorem dFv.keep {a k : Int} {R R' : xR} (h : dFv a k R) (e : R' k = R k) : dFv a k R' := by
  unfold dFv at *
  rw [e]
  exact h
/-- rows of leads and of found -/
def dRws (a : Int) : Prop := (400 ≤ a ∧ a < 440) ∨ (450 ≤ a ∧ a < 491)
/-- the desk on its way: the regions of S (region, field, type, length) are there, rows of which rw tells -/
def dI (σ0 : xS) (R0 : xR) (S : List (Int × Nat × Nat × Nat)) (rw : Int → Prop) (σ : xS) (R : xR) : Prop := σ 1 = σ0 1 ∧ (∀ e ∈ S, (σ e.1).2 = (e.2.2.1, e.2.2.2) ∧ (e.2.1 < 23 → R 1 (e.2.1 : Int) = ((σ e.1).1 : Int) + 1) ∧ dFv (σ0 90).1 e.1 R) ∧ (∀ a, rw a → ((400 ≤ a ∧ a < 440) → (σ a).2 = (36, 13)) ∧ ((450 ≤ a ∧ a < 491) → (σ a).2 = (35, 6)) ∧ ∀ i, R a i = 0) ∧ (∀ a, a ≠ 1 → (∀ e ∈ S, a ≠ e.1) → ¬ rw a → σ a = σ0 a ∧ R a = R0 a) ∧ ∀ i : Int, (∀ e ∈ S, i ≠ (e.2.1 : Int)) → R 1 i = R0 1 i
theorem dI.nil {σ : xS} {R : xR} : dI σ R [] (fun _ => False) σ R := ⟨rfl, fun e h => (by cases h), fun a h => h.elim, fun _ _ _ _ => ⟨rfl, rfl⟩, fun _ _ => rfl⟩
theorem dI.add {σ0 σ σ' : xS} {R0 R R' : xR} {S : List (Int × Nat × Nat × Nat)} {rw : Int → Prop} (h : dI σ0 R0 S rw σ R) (N : List (Int × Nat × Nat × Nat)) (rw' : Int → Prop) (hσ : ∀ a, (∀ e ∈ N, a ≠ e.1) → ¬ rw' a → σ' a = σ a) (hR : ∀ a, a ≠ 1 → (∀ e ∈ N, a ≠ e.1) → ¬ rw' a → R' a = R a) (hR1 : ∀ i : Int, (∀ e ∈ N, i ≠ (e.2.1 : Int)) → R' 1 i = R 1 i)
    (hN : ∀ e ∈ N, (σ' e.1).2 = (e.2.2.1, e.2.2.2) ∧ (e.2.1 < 23 → R' 1 (e.2.1 : Int) = ((σ' e.1).1 : Int) + 1) ∧ dFv (σ0 90).1 e.1 R') (hrw : ∀ a, rw' a → ((400 ≤ a ∧ a < 440) → (σ' a).2 = (36, 13)) ∧ ((450 ≤ a ∧ a < 491) → (σ' a).2 = (35, 6)) ∧ ∀ i, R' a i = 0)
    (hd1 : ∀ e ∈ N, (1 : Int) ≠ e.1) (hdS : ∀ e ∈ S, (∀ e' ∈ N, e.1 ≠ e'.1) ∧ (e.2.1 < 23 → ∀ e' ∈ N, (e.2.1 : Int) ≠ (e'.2.1 : Int)) ∧ e.1 ≠ 1) (hr1 : ¬ rw' 1) (hrS : ∀ e ∈ S, ¬ rw' e.1) (hrN : ∀ a, rw a → (∀ e ∈ N, a ≠ e.1) ∧ ¬ rw' a ∧ a ≠ 1) : dI σ0 R0 (N ++ S) (fun a => rw a ∨ rw' a) σ' R' := by
  obtain ⟨h1, h2, h3, h4, h5⟩ := h
  refine ⟨by rw [hσ 1 hd1 hr1]; exact h1, fun e he => ?_, fun a ha => ?_, fun a a1 a2 a3 => ?_, fun i hi => ?_⟩
  · rcases List.mem_append.mp he with he | he
    · exact hN e he
    · obtain ⟨s1, s2, s3⟩ := hdS e he
      obtain ⟨g1, g2, g3⟩ := h2 e he
      have e1 := hσ e.1 s1 (hrS e he)
      exact ⟨by rw [e1]; exact g1, fun hj => by rw [e1, hR1 _ (s2 hj)]; exact g2 hj, g3.keep (hR e.1 s3 s1 (hrS e he))⟩
  · rcases ha with ha | ha
    · obtain ⟨s1, s2, s3⟩ := hrN a ha
      obtain ⟨g1, g2, g3⟩ := h3 a ha
      have e1 := hσ a s1 s2
      exact ⟨fun q => by rw [e1]; exact g1 q, fun q => by rw [e1]; exact g2 q, fun i => by rw [hR a s3 s1 s2]; exact g3 i⟩
    · exact hrw a ha
  · have b1 : ∀ e ∈ N, a ≠ e.1 := fun e he => a2 e (List.mem_append_left _ he)
    have b2 : ∀ e ∈ S, a ≠ e.1 := fun e he => a2 e (List.mem_append_right _ he)
    obtain ⟨g1, g2⟩ := h4 a a1 b2 (fun q => a3 (Or.inl q))
    exact ⟨by rw [hσ a b1 (fun q => a3 (Or.inr q))]; exact g1, by rw [hR a a1 b1 (fun q => a3 (Or.inr q))]; exact g2⟩
  · rw [hR1 i (fun e he => hi e (List.mem_append_left _ he))]
    exact h5 i (fun e he => hi e (List.mem_append_right _ he))
/-- one array more -/
theorem dI.arr {σ0 σ : xS} {R0 R Q : xR} {S : List (Int × Nat × Nat × Nat)} {rw : Int → Prop} (h : dI σ0 R0 S rw σ R) {k : Int} {j q t n : Nat} (hQ : Q = xup (xru R k (fun _ => 0)) 1 (j : Int) ((q : Int) + 1)) (hz : ∀ R' : xR, (∀ i, R' k i = 0) → dFv (σ0 90).1 k R') (hk1 : (1 : Int) ≠ k) (hdS : ∀ e ∈ S, e.1 ≠ k ∧ (e.2.1 < 23 → (e.2.1 : Int) ≠ (j : Int)) ∧ e.1 ≠ 1) (hrN : ∀ a, rw a → a ≠ k ∧ a ≠ 1) : dI σ0 R0 ((k, j, t, n) :: S) rw (xsu σ k (q, t, n)) Q := by
  have h2 := h.add (σ' := xsu σ k (q, t, n)) (R' := Q) [(k, j, t, n)] (fun _ => False) (fun a ha _ => xsu_ne _ _ (ha _ List.mem_cons_self)) (fun a a1 ha _ => by
    funext i
    rw [xr_o hQ a1, xru_ne _ _ (ha _ List.mem_cons_self)]) (fun i hi => by rw [xr_d hQ (hi _ List.mem_cons_self), xru_ne _ _ hk1]) (fun e he => by
    rw [List.mem_singleton.mp he]
    exact ⟨by rw [xsu_self], fun _ => by rw [xsu_self, xr_s hQ], hz Q (fun i => by rw [xr_o hQ (fun e => hk1 e.symm), xru_self])⟩) (fun a ha => ha.elim) (fun e he => by rw [List.mem_singleton.mp he]; exact hk1) (fun e he => ⟨fun e' he' => by rw [List.mem_singleton.mp he']; exact (hdS e he).1, fun hj e' he' => by rw [List.mem_singleton.mp he']; exact (hdS e he).2.1 hj, (hdS e he).2.2⟩) (fun q => q) (fun e he q => q) (fun a ha => ⟨fun e he => by rw [List.mem_singleton.mp he]; exact (hrN a ha).1, fun q => q, (hrN a ha).2⟩)
  have e3 : (fun a => rw a ∨ False) = rw := by funext a; exact propext ⟨fun q => q.resolve_right id, Or.inl⟩
  rw [e3] at h2
  exact h2
theorem raw_AL : ∀ j, j < 3 → xkd 4 j < 3 ∧ defaultValue (t_AL j) = xdv (xkd 4 j) := by decide
theorem w_clAL : Cond.classLink "RepairDesk" 7 "java/util/ArrayList" ∈ xtb := xin 35 (by decide +kernel) (by decide +kernel)
theorem w_inAL : Cond.instantiable "java/util/ArrayList" 3 ∈ xtb := xin 36 (by decide +kernel) (by decide +kernel)
theorem w_iniAL : Cond.initialized "java/util/ArrayList" ∈ xtb := xin 4 (by decide +kernel) (by decide +kernel)
theorem raw_SB : ∀ j, j < 4 → xkd 5 j < 3 ∧ defaultValue (t_SB j) = xdv (xkd 5 j) := by decide
theorem w_clSB : Cond.classLink "RepairDesk" 19 "java/lang/StringBuilder" ∈ xtb := xin 61 (by decide +kernel) (by decide +kernel)
theorem w_inSB : Cond.instantiable "java/lang/StringBuilder" 4 ∈ xtb := xin 62 (by decide +kernel) (by decide +kernel)
theorem w_iniSB : Cond.initialized "java/lang/StringBuilder" ∈ xtb := xin 6 (by decide +kernel) (by decide +kernel)
theorem w_clI : Cond.classLink "RepairDesk" 26 "[I" ∈ xtb := xin 94 (by decide +kernel) (by decide +kernel)
theorem w_clS2 : Cond.classLink "RepairDesk" 48 "[[S" ∈ xtb := xin 96 (by decide +kernel) (by decide +kernel)
theorem w_clB2 : Cond.classLink "RepairDesk" 62 "[[B" ∈ xtb := xin 98 (by decide +kernel) (by decide +kernel)
/-- a list more -/
theorem dI.al {σ0 σ : xS} {R0 R Q : xR} {S : List (Int × Nat × Nat × Nat)} {rw : Int → Prop} (h : dI σ0 R0 S rw σ R) {k : Int} {j q : Nat} (hQ : Q = xup (xup (xup (xru R k (fun _ => 0)) k 2 0) k 0 (((xsu σ k (q, 4, 0) 90).1 : Int) + 1)) 1 (j : Int) ((q : Int) + 1)) (hk : k = 2 ∨ k = 3 ∨ k = 4) (h90 : σ 90 = σ0 90) (hdS : ∀ e ∈ S, e.1 ≠ k ∧ (e.2.1 < 23 → (e.2.1 : Int) ≠ (j : Int)) ∧ e.1 ≠ 1) (hrN : ∀ a, rw a → a ≠ k ∧ a ≠ 1) : dI σ0 R0 ((k, j, 4, 0) :: S) rw (xsu σ k (q, 4, 0)) Q := by
  have hk1 : (1 : Int) ≠ k := by omega
  have e90 : (xsu σ k (q, 4, 0) 90) = σ0 90 := by rw [xsu_ne _ _ (by omega)]; exact h90
  rw [e90] at hQ
  have h2 := h.add (σ' := xsu σ k (q, 4, 0)) (R' := Q) [(k, j, 4, 0)] (fun _ => False) (fun a ha _ => xsu_ne _ _ (ha _ List.mem_cons_self)) (fun a a1 ha _ => by
    funext i
    have hak : a ≠ k := ha _ List.mem_cons_self
    rw [xr_o hQ a1, xr_o rfl hak, xr_o rfl hak, xru_ne _ _ hak]) (fun i hi => by rw [xr_d hQ (hi _ List.mem_cons_self), xr_o rfl hk1, xr_o rfl hk1, xru_ne _ _ hk1]) (fun e he => by
    rw [List.mem_singleton.mp he]
    refine ⟨by rw [xsu_self], fun _ => by rw [xsu_self, xr_s hQ], ?_⟩
    unfold dFv
    rw [if_pos hk]
    exact ⟨by rw [xr_o hQ (fun e => hk1 e.symm), xr_s rfl], by rw [xr_o hQ (fun e => hk1 e.symm), xr_d rfl (by decide), xr_d rfl (by decide), xru_self]⟩) (fun a ha => ha.elim) (fun e he => by rw [List.mem_singleton.mp he]; exact hk1) (fun e he => ⟨fun e' he' => by rw [List.mem_singleton.mp he']; exact (hdS e he).1, fun hj e' he' => by rw [List.mem_singleton.mp he']; exact (hdS e he).2.1 hj, (hdS e he).2.2⟩) (fun q => q) (fun e he q => q) (fun a ha => ⟨fun e he => by rw [List.mem_singleton.mp he]; exact (hrN a ha).1, fun q => q, (hrN a ha).2⟩)
  have e3 : (fun a => rw a ∨ False) = rw := by funext a; exact propext ⟨fun q => q.resolve_right id, Or.inl⟩
  rw [e3] at h2
  exact h2
/-- an array of arrays more -/
theorem dI.mul {σ0 σ : xS} {R0 R Q : xR} {S : List (Int × Nat × Nat × Nat)} {rw : Int → Prop} (h : dI σ0 R0 S rw σ R) {k base : Int} {j q T t N K : Nat} (hQ : Q = xup (xrm2 R k base N) 1 (j : Int) ((q : Int) + 1)) (hk : k = 15 ∨ k = 19) (hb : (k = 15 ∧ base = 400 ∧ N = 40 ∧ t = 36 ∧ K = 13) ∨ (k = 19 ∧ base = 450 ∧ N = 41 ∧ t = 35 ∧ K = 6)) (hdS : ∀ e ∈ S, e.1 ≠ k ∧ (e.2.1 < 23 → (e.2.1 : Int) ≠ (j : Int)) ∧ e.1 ≠ 1 ∧ e.1 < 400) (hrN : ∀ a, rw a → a ≠ k ∧ a ≠ 1 ∧ ¬ (base ≤ a ∧ a < base + N)) : dI σ0 R0 ((k, j, T, N) :: S) (fun a => rw a ∨ (base ≤ a ∧ a < base + N)) (xsm σ k base q T t N K) Q := by
  have hb4 : 400 ≤ base := by omega
  have so : ∀ a, a ≠ k → ¬ (base ≤ a ∧ a < base + N) → xsm σ k base q T t N K a = σ a := fun a h1 h2 => by
    unfold xsm
    rw [if_neg h1, if_neg h2]
  have ro : ∀ a, a ≠ k → ¬ (base ≤ a ∧ a < base + N) → xrm2 R k base N a = R a := fun a h1 h2 => by
    unfold xrm2
    rw [if_neg h1, if_neg h2]
  have hk1 : (1 : Int) ≠ k := by omega
  refine h.add (σ' := xsm σ k base q T t N K) (R' := Q) [(k, j, T, N)] (fun a => base ≤ a ∧ a < base + N) (fun a ha hr => so a (ha _ List.mem_cons_self) hr) (fun a a1 ha hr => ?_) (fun i hi => by rw [xr_d hQ (hi _ List.mem_cons_self), ro 1 hk1 (by omega)]) (fun e he => ?_) (fun a ha => ?_) (fun e he => by rw [List.mem_singleton.mp he]; exact hk1) (fun e he => ⟨fun e' he' => by rw [List.mem_singleton.mp he']; exact (hdS e he).1, fun hj e' he' => by rw [List.mem_singleton.mp he']; exact (hdS e he).2.1 hj, (hdS e he).2.2.1⟩) (by omega) (fun e he q => by have := (hdS e he).2.2.2; omega) (fun a ha => ⟨fun e he => by rw [List.mem_singleton.mp he]; exact (hrN a ha).1, (hrN a ha).2.2, (hrN a ha).2.1⟩)
  · funext i
    rw [xr_o hQ a1, ro a (ha _ List.mem_cons_self) hr]
  · rw [List.mem_singleton.mp he]
    have sk : xsm σ k base q T t N K k = (q, T, N) := if_pos rfl
    refine ⟨by rw [sk], fun _ => by rw [sk, xr_s hQ], ?_⟩
    unfold dFv
    rw [if_neg (by show ¬ (k = 2 ∨ k = 3 ∨ k = 4); omega), if_neg (by show ¬ k = 10; omega), if_neg (by show ¬ (k = 6 ∨ k = 7); omega), if_neg (by show ¬ k = 5; omega)]
    intro i
    show Q k i = 0
    rw [xr_o hQ (fun e => hk1 e.symm)]
    unfold xrm2
    rw [if_pos rfl]
  · have e1 : xsm σ k base q T t N K a = (q + 1 + (a - base).toNat, t, K) := by
      unfold xsm
      rw [if_neg (by omega), if_pos ha]
    refine ⟨fun q2 => by rw [e1, show t = 36 by omega, show K = 13 by omega], fun q2 => by rw [e1, show t = 35 by omega, show K = 6 by omega], fun i => ?_⟩
    rw [xr_o hQ (by omega)]
    unfold xrm2
    rw [if_neg (by omega), if_pos ha]
