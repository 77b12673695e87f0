/-! the desk: shapes that grow; the pool of states; ready -/
/-- regions that were there keep their shape -/
def sx (σ σ' : xS) : Prop := ∀ a, ((σ a).2.1 ≠ 0 ∨ (90 ≤ a ∧ a ≤ 99)) → σ' a = σ a
theorem sx.rf {σ : xS} : sx σ σ := fun _ _ => rfl
theorem sx.trans {σ σ1 σ2 : xS} (h : sx σ σ1) (h1 : sx σ1 σ2) : sx σ σ2 := fun a ha => (h1 a (by rw [h a ha]; exact ha)).trans (h a ha)
theorem sx.new {σ : xS} {k : Int} {t : Nat × Nat × Nat} (h9 : k < 90 ∨ 99 < k) (hk : (σ k).2.1 = 0) : sx σ (xsu σ k t) := fun a ha => xsu_ne _ _ (fun e => by
  rcases ha with ha | ha
  · rw [e] at ha; exact ha hk
  · omega)
/-- no region from f on is in use -/
def fr (f : Int) (σ : xS) : Prop := 2000 ≤ f ∧ ∀ a, f ≤ a → (σ a).2.1 = 0
theorem fr.lt {σ : xS} {f a : Int} (h : fr f σ) (ha : (σ a).2.1 ≠ 0) : a < f := by
  by_cases c : a < f
  · exact c
  · exact absurd (h.2 a (by omega)) ha
theorem fr.new {σ : xS} {f f' k : Int} {t : Nat × Nat × Nat} (h : fr f σ) (hk : k < f') (hf : f ≤ f') : fr f' (xsu σ k t) := ⟨by have := h.1; omega, fun a ha => by rw [xsu_ne _ _ (by omega)]; exact h.2 a (by omega)⟩
theorem fr.mono {σ : xS} {f f' : Int} (h : fr f σ) (hf : f ≤ f') : fr f' σ := ⟨by have := h.1; omega, fun a ha => h.2 a (by omega)⟩
theorem sx.at {σ σ' : xS} (h : sx σ σ') {a : Int} {t n : Nat} (ha : (σ a).2 = (t, n)) (ht : t ≠ 0) : σ' a = σ a := h a (Or.inl (by rw [ha]; exact ht))
theorem xsh.ext {σ σ' : xS} {l : List (Int × Nat × Nat)} (hl : ∀ q ∈ l, q.2.1 ≠ 0) (h : xsh σ l) (hx : sx σ σ') : xsh σ' l := fun i q hi => by
  have h1 := h i q hi
  rw [hx q.1 (Or.inl (by rw [h1]; exact hl q (List.mem_of_getElem? hi)))]
  exact h1
theorem dSh.ext {σ σ' : xS} (h : dSh σ) (hx : sx σ σ') : dSh σ' := ⟨h.1.ext (by decide) hx, fun j a b => by rw [hx.at (h.2.1 j a b) (by decide)]; exact h.2.1 j a b, fun j a b => by rw [hx.at (h.2.2 j a b) (by decide)]; exact h.2.2 j a b⟩
theorem alI.ext {σ σ' : xS} {R R' : xR} {K e n : Int} {cap : Nat} (h : alI σ R K e n cap) (hx : sx σ σ') (hR : R' K = R K) : alI σ' R' K e n cap := by
  obtain ⟨a1, a2, a3, a4, a5⟩ := h
  refine ⟨by rw [hx.at a1 (by decide)]; exact a1, by rw [hR]; exact a2, a3, a4, ?_⟩
  rw [hR]
  rcases a5 with ⟨b1, b2⟩ | ⟨b1, b2, b3, b4⟩
  · exact Or.inl ⟨b1, by rw [hx 90 (Or.inr (by decide))]; exact b2⟩
  · exact Or.inr ⟨b1, b2, by rw [hx.at b3 (by decide)]; exact b3, by rw [hx.at b3 (by decide)]; exact b4⟩
theorem rlI.ext {σ σ' : xS} {R R' : xR} {k l : Int} {n : Nat} {s : Int → Int} (h : rlI σ R k l n s) (hx : sx σ σ') (h1 : R' k = R k) (h2 : R' (k + 1) = R (k + 1)) : rlI σ' R' k l n s := by
  obtain ⟨a1, a2, a3, a4, a5, a6⟩ := h
  exact ⟨by rw [hx.at a1 (by decide)]; exact a1, by rw [hx.at a2 (by decide)]; exact a2, a3, by rw [h1]; exact a4, a5, fun i i0 i1 => by rw [h2]; exact a6 i i0 i1⟩
theorem dRu.ext {σ σ' : xS} {R R' : xR} {g : xGr} {ρ : Int → Int} {e : Int} {cap : Nat} (h : dRu σ R g ρ e cap) (hx : sx σ σ') (h2 : R' 2 = R 2) (he : 0 < g.1 → R' e = R e) (hr : ∀ i, 0 ≤ i → i < g.1 → R' (ρ i) = R (ρ i) ∧ R' (ρ i + 1) = R (ρ i + 1)) : dRu σ' R' g ρ e cap := by
  obtain ⟨a1, a2, a3, a4⟩ := h
  refine ⟨a1, a2.ext hx h2, a3, fun i i0 i1 => ?_⟩
  obtain ⟨b1, b2, b3⟩ := a4 i i0 i1
  exact ⟨by rw [he (by omega), hx.at b2.1 (by decide)]; exact b1, b2.ext hx (hr i i0 i1).1 (hr i i0 i1).2, b3⟩
theorem dUs.ext {σ σ' : xS} {R R' : xR} {G : xGr} {u υ : Int → Int} {m e : Int} {cap : Nat} (h : dUs σ R G u m υ e cap) (hx : sx σ σ') (h3 : R' 3 = R 3) (he : R' e = R e) (hv : ∀ j, 0 ≤ j → j < m → R' (υ j) = R (υ j) ∧ R' (υ j + 1) = R (υ j + 1)) : dUs σ' R' G u m υ e cap := by
  obtain ⟨a0, a2, a3, a4⟩ := h
  refine ⟨a0, a2.ext hx h3, a3, fun i i0 i1 => ?_⟩
  obtain ⟨b1, b2, b3⟩ := a4 i i0 i1
  exact ⟨by rw [he, hx.at b2.1 (by decide)]; exact b1, b2.ext hx (hv i i0 i1).1 (hv i i0 i1).2, b3⟩
/-- the pool: state i at region π i, the list's array at region e -/
def dPl (σ : xS) (R : xR) (π : Int → Int) (e n : Int) (cap : Nat) : Prop := alI σ R 4 e n cap ∧ (cap = 0 ∨ 10 ≤ cap) ∧ 1000 ≤ e ∧ n ≤ 41 ∧ (∀ i, 0 ≤ i → i < n → R e i = ((σ (π i)).1 : Int) + 1 ∧ (σ (π i)).2 = (19, 0) ∧ (σ (π i + 1)).2 = (37, 7) ∧ 1000 ≤ π i) ∧ ∀ i j, 0 ≤ i → i < n → 0 ≤ j → j < n → i ≠ j → π i ≠ π j ∧ π i ≠ π j + 1
/-- e is the list's array, if it has one -/
theorem alI.arr {σ : xS} {R : xR} {K e n : Int} {cap : Nat} (h : alI σ R K e n cap) (hn : 0 < n) : (σ e).2 = (38, cap) ∧ e ≠ K := by
  obtain ⟨-, -, h1, -, h2⟩ := h
  rcases h2 with ⟨q, -⟩ | ⟨-, q1, q2, -⟩
  · omega
  · exact ⟨q2, q1⟩
theorem dPl.ext {σ σ' : xS} {R R' : xR} {π : Int → Int} {e n : Int} {cap : Nat} (h : dPl σ R π e n cap) (hx : sx σ σ') (h4 : R' 4 = R 4) (he : 0 < n → R' e = R e) : dPl σ' R' π e n cap := by
  obtain ⟨a1, a2, a3, a4, a5, a6⟩ := h
  refine ⟨a1.ext hx h4, a2, a3, a4, fun i i0 i1 => ?_, a6⟩
  obtain ⟨b1, b2, b3, b4⟩ := a5 i i0 i1
  exact ⟨by rw [he (by omega), hx.at b2 (by decide)]; exact b1, by rw [hx.at b2 (by decide)]; exact b2, by rw [hx.at b3 (by decide)]; exact b3, b4⟩
/-- the state at hand is cleared: a new one perhaps -/
def rdP (σ : xS) (R : xR) (f : Int) (π : Int → Int) (e n : Int) (σ' : xS) (R' : xR) : Prop := ∃ (π' : Int → Int) (e' n' : Int) (cap' : Nat), (dPl σ' R' π' e' n' cap' ∧ (e' = e ∨ f ≤ e')) ∧ R 1 10 < n' ∧ n ≤ n' ∧ (∀ i, 0 ≤ i → i < n → π' i = π i) ∧ R' 1 11 = ((σ' (π' (R 1 10))).1 : Int) + 1 ∧ (∀ c, 0 ≤ c → c < 448 → ¬ sH R' (π' (R 1 10) + 1) c) ∧ sx σ σ' ∧ fr (f + 3) σ' ∧ (∀ j, j ≠ 11 → R' 1 j = R 1 j) ∧ ∀ a, (σ a).2.1 ≠ 0 → a ≠ 1 → a ≠ 4 → a ≠ e → a ≠ π' (R 1 10) + 1 → R' a = R a
theorem raw_State : ∀ j, j < 1 → xkd 3 j < 3 ∧ defaultValue (t_State j) = xdv (xkd 3 j) := by decide
theorem w_clS : Cond.classLink "RepairDesk" 171 "RepairDesk$State" ∈ xtb := xin 707 (by decide +kernel) (by decide +kernel)
theorem w_inS : Cond.instantiable "RepairDesk$State" 1 ∈ xtb := xin 708 (by decide +kernel) (by decide +kernel)
theorem w_iniS : Cond.initialized "RepairDesk$State" ∈ xtb := xin 24 (by decide +kernel) (by decide +kernel)
theorem w_imS : Cond.instanceMethod m_S_init.1 ∈ xtb := xin 710 (by decide +kernel) (by decide +kernel)
theorem dPl.el {σ : xS} {R : xR} {π : Int → Int} {e n : Int} {cap : Nat} (h : dPl σ R π e n cap) (hn : n = cap) : elOk σ R e cap := by
  intro i i0 i1
  obtain ⟨b1, b2, -⟩ := h.2.2.2.2.1 i i0 (by omega)
  exact Or.inr ⟨π i, 19, 0, b2, b1, by decide⟩
set_option maxHeartbeats 4000000 in
theorem c_D_ready {σ : xS} {R : xR} (hD : dSh σ) (f : Int) (hf : fr f σ) (π : Int → Int) (e n : Int) (cap : Nat) (hP : dPl σ R π e n cap) (hs : 0 ≤ R 1 10 ∧ R 1 10 ≤ n ∧ R 1 10 ≤ 40) : Ct m_D_ready 8 3 72 [.ref (σ 1).1] σ R (fun o σ' R' => o = .returned none ∧ rdP σ R f π e n σ' R') := by
  refine Ct.of [some (.ref (σ 1).1)] rfl (by decide +kernel) (lr rfl) (fun X => ?_)
  have hd1 := hD.1.at 0 (k := 1) (t := 17) (n := 0) rfl
  have hA := hP.1
  have hn0 := hA.2.2.1
  have hn41 := hP.2.2.2.1
  have hf0 := hf.1
  -- behind the making: the state is at hand
  have tail : ∀ (σ1 : xS) (R1 : xR) (π' : Int → Int) (e' n' : Int) (cap' cn sn : Nat), cn ≤ 3 → sn ≤ 72 → (e' = e ∨ f ≤ e') → dPl σ1 R1 π' e' n' cap' → R 1 10 < n' → n ≤ n' → (∀ i, 0 ≤ i → i < n → π' i = π i) → sx σ σ1 → fr (f + 3) σ1 → (∀ j, R1 1 j = R 1 j) → (∀ a, (σ a).2.1 ≠ 0 → a ≠ 1 → a ≠ 4 → a ≠ e → R1 a = R a) →
      V X m_D_ready (8, 3, 72, fun o σ' R' => o = .returned none ∧ rdP σ R f π e n σ' R') σ1 R1 cn sn 29 [some (.ref (σ 1).1)] [] := by
    intro σ1 R1 π' e' n' cap' cn sn hcn hsn hee hP1 h1 h2 h3 hx hf1 hr1 hr2
    have hD1 := hD.ext hx
    have e1 : σ1 1 = σ 1 := hx.at hd1 (by decide)
    have hA1 := hP1.1
    obtain ⟨b1, b2, b3, b4⟩ := hP1.2.2.2.2.1 (R 1 10) hs.1 h1
    have hst : R1 1 10 = R 1 10 := hr1 10
    refine x_aload_n d_D_ready_29 0 rfl rfl ?_
    refine x_aload_n d_D_ready_30 0 rfl rfl ?_
    refine x_getc 1 9 4 4 fl_D_45 tk_17_9 (n := 0) (by rw [e1]; exact hd1) (by rw [e1]) rfl d_D_ready_31 ?_
    refine x_aload_n d_D_ready_34 0 rfl rfl ?_
    refine x_geti 1 10 10 (R 1 10) fl_D_197 tk_17_10 (n := 0) (by rw [e1]; exact hd1) (by rw [e1]) rfl hst d_D_ready_35 ?_
    refine x_cva 4 (As := [vi (R 1 10)]) (c_AL_get 4 e' n' cap' hA1 (R 1 10) (σ1 (π' (R 1 10))).1 ⟨hs.1, h1⟩ b1) cs_D_131 hA1.rc rfl rfl (lr rfl) d_D_ready_38 (lr rfl) ⟨hcn, hsn⟩ ?_
    refine x_castS (π' (R 1 10)) b2 rfl d_D_ready_41 ?_
    refine x_putr 1 11 11 (((σ1 (π' (R 1 10))).1 : Int) + 1) fp_D_189 tk_17_11 (n := 0) (by rw [e1]; exact hd1) (by rw [e1]) rfl rfl ⟨rfl, rfl⟩ d_D_ready_44 (fun R2 hR2 => ?_)
    refine x_aload_n d_D_ready_47 0 rfl rfl ?_
    refine x_getr 1 11 11 (((σ1 (π' (R 1 10))).1 : Int) + 1) fl_D_189 tk_17_11 (n := 0) (by rw [e1]; exact hd1) (by rw [e1]) rfl (xr_s hR2) d_D_ready_48 ?_
    refine x_cvv (π' (R 1 10)) (As := []) (c_S_clear (π' (R 1 10)) b2 b3) cs_D_201 (thisS b2) rfl rfl (lr rfl) d_D_ready_51 (lr rfl) ⟨hcn, hsn⟩ (fun R3 hR3 => ?_)
    obtain ⟨g1, g2⟩ := hR3
    have hk1 : ∀ a, a < 1000 → a ≠ π' (R 1 10) + 1 := fun a ha => by omega
    have he4 : e' ≠ π' (R 1 10) + 1 := fun q => by
      have := (hA1.arr (by omega)).1
      rw [q, b3] at this
      cases this
    refine x_vret d_D_ready_54 rfl hcn hsn ⟨rfl, π', e', n', cap', ⟨?_, hee⟩, h1, h2, h3, ?_, g2, hx, hf1, fun j hj => ?_, fun a a1 a2 a3 a4 a5 => ?_⟩
    · refine hP1.ext sx.rf ?_ (fun _ => ?_)
      · rw [g1 4 (hk1 4 (by decide))]
        funext b
        exact xr_o hR2 (by decide)
      · rw [g1 e' he4]
        funext b
        exact xr_o hR2 (by have := hP1.2.2.1; omega)
    · rw [g1 1 (hk1 1 (by decide)), xr_s hR2]
    · rw [g1 1 (hk1 1 (by decide)), xr_d hR2 hj]
      exact hr1 j
    · rw [g1 a a5, ← hr2 a a1 a2 a3 a4]
      funext b
      exact xr_o hR2 a2
  refine x_aload_n d_D_ready_0 0 rfl rfl ?_
  refine x_getc 1 9 4 4 fl_D_45 tk_17_9 hd1 rfl rfl d_D_ready_1 ?_
  refine x_cvi 4 (As := []) (c_AL_size 4 e n cap hA) cs_D_128 hA.rc rfl rfl (lr rfl) d_D_ready_4 (lr rfl) ⟨lr rfl, lr rfl⟩ ?_
  refine x_aload_n d_D_ready_7 0 rfl rfl ?_
  refine x_geti 1 10 10 (R 1 10) fl_D_197 tk_17_10 hd1 rfl rfl rfl d_D_ready_8 ?_
  refine x_icmp_ne (tgt := 29) d_D_ready_11 rfl (by omega) (by omega) (fun c => ?_) (fun c => ?_)
  · exact tail σ R π e n cap 0 0 (lr rfl) (lr rfl) (Or.inl rfl) hP (by omega) (Int.le_refl _) (fun _ _ _ => rfl) sx.rf (hf.mono (by omega)) (fun _ => rfl) (fun _ _ _ _ _ => rfl)
  · have hn : n = R 1 10 := by omega
    have hk0 : (σ f).2.1 = 0 := hf.2 f (Int.le_refl _)
    have hk1 : (σ (f + 1)).2.1 = 0 := hf.2 (f + 1) (by omega)
    have hk2 : (σ (f + 2)).2.1 = 0 := hf.2 (f + 2) (by omega)
    refine x_aload_n d_D_ready_14 0 rfl rfl ?_
    refine x_getc 1 9 4 4 fl_D_45 tk_17_9 hd1 rfl rfl d_D_ready_15 ?_
    refine x_new f 3 (ci := 2) t_State (by omega) hk0 (by decide) rfl i_State t_State_ok raw_State w_clS w_inS w_iniS d_D_ready_18 ⟨lr rfl, lr rfl⟩ (fun q => ?_)
    refine x_dup d_D_ready_21 rfl ?_
    have hc := c_S_init (σ := xsu σ f (q, 3, 0)) (R := xru R f (fun _ => 0)) f (by rw [xsu_self]) (by omega) (by omega) (by rw [xsu_ne _ _ (by omega)]; exact hk1)
    rw [show (xsu σ f (q, 3, 0) f).1 = q by rw [xsu_self]] at hc
    refine x_ciN 709 (host := "RepairDesk") (As := []) hc mk_S_init (by decide +kernel) w_imS rfl rfl rfl rfl (lr rfl) d_D_ready_22 (lr rfl) ⟨lr rfl, lr rfl⟩ (fun r σ1 R1 hZ => ?_)
    obtain ⟨z1, ⟨q2, z2⟩, z3, z4⟩ := hZ
    cases z1
    have s1 : ∀ a, a ≠ f → a ≠ f + 1 → σ1 a = σ a := fun a a1 a2 => by rw [z2, xsu_ne _ _ a1, xsu_ne _ _ a2, xsu_ne _ _ a1]
    have sf : σ1 f = (q, 19, 0) := by rw [z2, xsu_self]
    have sf1 : σ1 (f + 1) = (q2, 37, 7) := by rw [z2, xsu_ne _ _ (by omega), xsu_self]
    have hx1 : sx σ σ1 := fun a ha => s1 a (fun e => by rw [e] at ha; rcases ha with ha | ha; (exact ha hk0); omega) (fun e => by rw [e] at ha; rcases ha with ha | ha; (exact ha hk1); omega)
    have m1 : ∀ a, a ≠ f → a ≠ f + 1 → R1 a = R a := fun a a1 a2 => by rw [z4 a a1 a2, xru_ne _ _ a1]
    have hA1 : alI σ1 R1 4 e n cap := hA.ext hx1 (m1 4 (by omega) (by omega))
    have hef : 0 < n → e ≠ f ∧ e ≠ f + 1 := fun h0 => by
      have := hf.lt (a := e) (by rw [(hA.arr h0).1]; exact (by decide : (38 : Nat) ≠ 0))
      omega
    have hP1 : dPl σ1 R1 π e n cap := hP.ext hx1 (m1 4 (by omega) (by omega)) (fun h0 => m1 e (hef h0).1 (hef h0).2)
    have s4 : (σ1 4).1 = (σ 4).1 := by rw [s1 4 (by omega) (by omega)]
    have hc2 := c_AL_add 4 e (f + 2) f n cap hA1 (by rcases hP.2.1 with h | h <;> omega) (fun h => by omega) (by omega) (by rw [s1 (f + 2) (by omega) (by omega)]; exact hk2) (fun h => hP1.el h) ⟨19, 0, by rw [sf], by decide⟩
    rw [show (σ1 f).1 = q by rw [sf], s4] at hc2
    refine x_cv 4 (As := [.ref q]) hc2 cs_D_142 ⟨s4, 4, 0, 3, F_AL, 3, hA1.1, by decide, rfl⟩ rfl rfl (lr rfl) d_D_ready_25 (lr rfl) ⟨lr rfl, lr rfl⟩ (fun r σ2 R2 hZ => ?_)
    obtain ⟨y1, e', cap', y2, y3, y4, y5, y6⟩ := hZ
    cases y1
    refine x_pop d_D_ready_28 rfl ?_
    have hx2 : sx σ1 σ2 := by
      rcases y3 with ⟨-, -, -, h⟩ | ⟨-, -, -, q3, h⟩
      · rw [h]; exact sx.rf
      · rw [h]; exact sx.new (by omega) (by rw [s1 (f + 2) (by omega) (by omega)]; exact hk2)
    have hfr2 : fr (f + 3) σ2 := by
      have hb : fr (f + 3) σ1 := ⟨by omega, fun a ha => by rw [s1 a (by omega) (by omega)]; exact hf.2 a (by omega)⟩
      rcases y3 with ⟨-, -, -, h⟩ | ⟨-, -, -, q3, h⟩
      · rw [h]; exact hb
      · rw [h]; exact hb.new (by omega) (Int.le_refl _)
    have he' : e' = e ∨ e' = f + 2 := y3.imp (fun h => h.1) (fun h => h.1)
    have hlt : ∀ i, 0 ≤ i → i < n → π i + 1 < f := fun i i0 i1 => hf.lt (by rw [(hP.2.2.2.2.1 i i0 i1).2.2.1]; decide)
    refine tail σ2 R2 (up1 π n f) e' (n + 1) cap' _ _ (lr rfl) (lr rfl) (by omega) ⟨y2, ?_, ?_, by omega, fun i i0 i1 => ?_, fun i j i0 i1 j0 j1 hij => ?_⟩ (by omega) (by omega) (fun i i0 i1 => up1_n _ _ (by omega)) (hx1.trans hx2) hfr2 (fun j => ?_) (fun a a1 a2 a3 a4 => ?_)
    · rcases y3 with ⟨-, h, -⟩ | ⟨-, h, -⟩
      · rw [h]; exact hP.2.1
      · refine Or.inr ?_
        rw [h]
        unfold nwc
        rcases hP.2.1 with h2 | h2
        · rw [if_pos h2]; exact Nat.le_refl _
        · rw [if_neg (by omega)]; omega
    · have := hP.2.2.1
      omega
    · by_cases c2 : i = n
      · rw [c2, up1_s]
        refine ⟨by rw [y5, hx2.at (t := 19) (n := 0) (by rw [sf]) (by decide), sf], by rw [hx2.at (t := 19) (n := 0) (by rw [sf]) (by decide), sf], by rw [hx2.at (t := 37) (n := 7) (by rw [sf1]) (by decide), sf1], by omega⟩
      · rw [up1_n _ _ c2]
        obtain ⟨b1, b2, b3, b4⟩ := hP1.2.2.2.2.1 i i0 (by omega)
        exact ⟨by rw [y4 i i0 (by omega), hx2.at b2 (by decide)]; exact b1, by rw [hx2.at b2 (by decide)]; exact b2, by rw [hx2.at b3 (by decide)]; exact b3, b4⟩
    · by_cases c2 : i = n
      · have hj := hlt j j0 (by omega)
        rw [c2, up1_s, up1_n _ _ (by omega)]
        omega
      · rw [up1_n _ _ c2]
        have hi := hlt i i0 (by omega)
        by_cases c3 : j = n
        · rw [c3, up1_s]
          omega
        · rw [up1_n _ _ c3]
          exact hP.2.2.2.2.2 i j i0 (by omega) j0 (by omega) hij
    · rw [y6 1 (by decide) (by have := hP.2.2.1; omega) (by omega), m1 1 (by omega) (by omega)]
    · have hal : a < f := hf.lt a1
      rw [y6 a a3 (by omega) (by omega), m1 a (by omega) (by omega)]
