/-! the desk: build's beginning: the rule of the whole -/
set_option maxHeartbeats 4000000 in
set_option maxRecDepth 100000 in
theorem v_D_whole {X : xCtx} {Z : xZ} {σ : xS} {R : xR} (hD : dSh σ) (g : xGr) (ρ : Int → Int) (e2 e3 f n3 : Int) (cap2 cap3 : Nat) (hf : fr f σ) (hRu : dRu σ R g ρ e2 cap2) (hg1 : 1 ≤ g.1) (hpr : dPr g R) (hA3 : alI σ R 3 e3 n3 cap3) (hc3 : cap3 = 0 ∨ 10 ≤ cap3) (he3 : 1000 ≤ e3 ∧ e3 < f) (h3t : (σ e3).2.1 = 0 ∨ (σ e3).2.1 = 38) (h23 : e2 ≠ e3)
    (fin : ∀ (σ1 : xS) (R1 : xR) (u : Int → Int) (m e : Int) (cap : Nat) (f1 : Int) (qa : Nat), dUl σ R g ρ e2 cap2 e3 f g.1 σ1 R1 u m e cap f1 → V X m_D_build (10, 1580, 38400, Z) σ1 R1 14 720 102 [some (.ref (σ1 1).1), some (.ref qa), some (vi g.1), none, none] []) :
    V X m_D_build (10, 1580, 38400, Z) σ R 0 0 0 [some (.ref (σ 1).1), none, none, none, none] [] := by
  have hd1 := hD.1.at 0 (k := 1) (t := 17) (n := 0) rfl
  have hf9 := hf.1
  have he2 := hRu.2.2.1
  have hw := hRu.1
  have hA2e := (hRu.2.1.arr (by omega)).1
  refine x_aload_n d_D_build_0 0 rfl rfl ?_
  refine x_getc 1 1 3 3 fl_D_16 tk_17_1 hd1 rfl rfl d_D_build_1 ?_
  refine x_cvv 3 (As := []) (c_AL_clear 3 e3 n3 cap3 hA3) cs_D_207 hA3.rc rfl rfl (lr rfl) d_D_build_4 (lr rfl) ⟨lr rfl, lr rfl⟩ (fun R1 hR1 => ?_)
  obtain ⟨hB3, k1⟩ := hR1
  refine x_iconst d_D_build_7 ?_
  refine x_newa (f + 1) 32 (by omega) (hf.2 (f + 1) (by omega)) na_32 ac_int (N := 1) rfl (lr rfl) d_D_build_8 ⟨lr rfl, lr rfl⟩ (fun qa => ?_)
  obtain ⟨σ1, hσ1⟩ : ∃ s, s = xsu σ (f + 1) (qa, 32, 1) := ⟨_, rfl⟩
  obtain ⟨R2, hR2⟩ : ∃ s, s = xru R1 (f + 1) (fun _ => 0) := ⟨_, rfl⟩
  rw [← hσ1, ← hR2]
  have s1 : ∀ a, a ≠ f + 1 → σ1 a = σ a := fun a h => by rw [hσ1]; exact xsu_ne _ _ h
  have s1f : σ1 (f + 1) = (qa, 32, 1) := by rw [hσ1]; exact xsu_self _ _ _
  have hx1 : sx σ σ1 := by rw [hσ1]; exact sx.new (by omega) (hf.2 (f + 1) (by omega))
  have k2 : ∀ a, a ≠ 3 → a ≠ e3 → a ≠ f + 1 → R2 a = R a := fun a b1 b2 b3 => by rw [hR2, xru_ne _ _ b3]; exact k1 a b1 b2
  have hne : ∀ a, (σ a).2.1 ≠ 0 → a < f := fun a h => hf.lt h
  have lt2 : e2 < f := hne e2 (by rw [hA2e]; exact (by decide : (38 : Nat) ≠ 0))
  -- the rules stay, whatever comes to the list of the used ones
  have ruk : ∀ (σ' : xS) (R' : xR), sx σ σ' → (∀ a, (σ a).2.1 ≠ 0 → a ≠ 3 → a ≠ e3 → R' a = R a) → dRu σ' R' g ρ e2 cap2 := fun σ' R' h1 h2 => hRu.mv h1 (fun a => a = 3 ∨ a = e3) (fun a b1 b2 => h2 a b1 (fun q => b2 (Or.inl q)) (fun q => b2 (Or.inr q))) (fun a ha => by
    rcases ha with rfl | rfl
    · rw [hA3.1]; exact ⟨by decide, by decide, by decide, by omega⟩
    · exact ⟨by omega, by omega, by omega, fun q => h23 q.symm⟩)
  have hD1 := hD.ext hx1
  have hd11 := hD1.1.at 0 (k := 1) (t := 17) (n := 0) rfl
  have hRu1 : dRu σ1 R2 g ρ e2 cap2 := ruk σ1 R2 hx1 (fun a b1 b2 b3 => k2 a b2 b3 (by have := hne a b1; omega))
  obtain ⟨r1, r2, r3⟩ := hRu1.2.2.2 0 (Int.le_refl _) (by omega)
  rw [← s1 1 (by omega)]
  refine x_dup d_D_build_10 rfl ?_
  refine x_iconst d_D_build_11 ?_
  refine x_aload_n d_D_build_12 0 rfl rfl ?_
  refine x_getc 1 0 2 2 fl_D_10 tk_17_0 hd11 rfl rfl d_D_build_13 ?_
  refine x_iconst d_D_build_16 ?_
  refine x_cva 2 (As := [vi 0]) (c_AL_get 2 e2 g.1 cap2 hRu1.2.1 0 (σ1 (ρ 0)).1 (by omega) r1) cs_D_131 hRu1.2.1.rc rfl rfl (lr rfl) d_D_build_17 (lr rfl) ⟨lr rfl, lr rfl⟩ ?_
  refine x_castR (ρ 0) r2.1 rfl d_D_build_20 ?_
  refine x_getiN (ρ 0) 0 0 (7 + g.2.1 0) fl_D_156 tk_18_0 r2.1 rfl rfl r2.2.2.2.1 d_D_build_23 ?_
  refine x_iast (f + 1) (t := 32) (n := 1) (by rw [s1f]) (by rw [s1f]) ⟨by decide, rfl, by decide⟩ rfl (by omega) d_D_build_26 (fun R3 hR3 => ?_)
  refine x_astore_n d_D_build_27 1 rfl [some (.ref (σ1 1).1), some (.ref qa), none, none, none] rfl rfl (lr rfl) ?_
  refine x_aload_n d_D_build_28 0 rfl rfl ?_
  refine x_getc 1 1 3 3 fl_D_16 tk_17_1 hd11 rfl rfl d_D_build_29 ?_
  refine x_new f 2 (ci := 1) t_Rule (by omega) (by rw [s1 f (by omega)]; exact hf.2 f (Int.le_refl _)) (by decide) rfl i_Rule t_Rule_ok raw_Rule w_clR w_inR w_iniR d_D_build_32 ⟨lr rfl, lr rfl⟩ (fun q => ?_)
  obtain ⟨σ2, hσ2⟩ : ∃ s, s = xsu σ1 f (q, 2, 0) := ⟨_, rfl⟩
  obtain ⟨R4, hR4⟩ : ∃ s, s = xru R3 f (fun _ => 0) := ⟨_, rfl⟩
  rw [← hσ2, ← hR4]
  have s2 : ∀ a, a ≠ f → σ2 a = σ1 a := fun a h => by rw [hσ2]; exact xsu_ne _ _ h
  have s2f : σ2 f = (q, 2, 0) := by rw [hσ2]; exact xsu_self _ _ _
  have s2f1 : σ2 (f + 1) = (qa, 32, 1) := by rw [s2 _ (by omega)]; exact s1f
  refine x_dup d_D_build_35 rfl ?_
  refine x_bipush d_D_build_36 rfl ?_
  refine x_aload_n d_D_build_38 1 rfl rfl ?_
  have hc := c_R_init (σ := σ2) (R := R4) f 13 1 (by rw [s2f]) (by omega) (by rw [s2f1])
  rw [show (σ2 f).1 = q by rw [s2f], show (σ2 (f + 1)).1 = qa by rw [s2f1]] at hc
  refine x_ci (As := [vi 13, .ref qa]) hc cs_D_125 rfl rfl (lr rfl) d_D_build_39 (lr rfl) ⟨lr rfl, lr rfl⟩ (fun r σ3 R5 hZ => ?_)
  obtain ⟨z1, z2, z3, z4⟩ := hZ
  cases z1
  have s3 : ∀ a, a ≠ f → σ3 a = σ2 a := fun a h => by rw [z2]; exact xsu_ne _ _ h
  have s3f : σ3 f = (q, 18, 0) := by rw [z2, xsu_self]
  have s30 : ∀ a, a ≠ f → a ≠ f + 1 → σ3 a = σ a := fun a h1 h2 => by rw [s3 a h1, s2 a h1, s1 a h2]
  have s3f1 : σ3 (f + 1) = (qa, 32, 1) := by rw [s3 _ (by omega)]; exact s2f1
  have hx3 : sx σ σ3 := fun a ha => s30 a (fun e => by rw [e] at ha; rcases ha with ha | ha; (exact ha (hf.2 f (Int.le_refl _))); omega) (fun e => by rw [e] at ha; rcases ha with ha | ha; (exact ha (hf.2 (f + 1) (by omega))); omega)
  have k5 : ∀ a, a ≠ f → R5 a = R3 a := fun a h => by rw [z4 a h, hR4, xru_ne _ _ h]
  have k3 : ∀ a, a ≠ f + 1 → R3 a = R2 a := fun a h => by funext b; exact xr_o hR3 h
  have k6 : ∀ a, a ≠ 3 → a ≠ e3 → a ≠ f → a ≠ f + 1 → R5 a = R a := fun a b1 b2 b3 b4 => by rw [k5 a b3, k3 a b4, k2 a b1 b2 b4]
  have hB5 : alI σ3 R5 3 e3 0 cap3 := hB3.ext hx3 (by rw [k5 3 (by omega), k3 3 (by omega), hR2, xru_ne _ _ (by omega)])
  have e13 : (σ3 1).1 = (σ1 1).1 := by rw [s3 1 (by omega), s2 1 (by omega)]
  have e33 : (σ3 3).1 = (σ1 3).1 := by rw [s3 3 (by omega), s2 3 (by omega)]
  have hc2 := c_AL_add 3 e3 (f + 2) f 0 cap3 hB5 (by omega) (fun h => by omega) (by omega) (by rw [s30 _ (by omega) (by omega)]; exact hf.2 (f + 2) (by omega)) (fun h i i0 i1 => by omega) (obR (by rw [s3f]))
  rw [show (σ3 f).1 = q by rw [s3f], e33] at hc2
  refine x_cv 3 (As := [.ref q]) hc2 cs_D_142 ⟨e33, 4, 0, 3, F_AL, 3, hB5.1, by decide, rfl⟩ rfl rfl (lr rfl) d_D_build_42 (lr rfl) ⟨lr rfl, lr rfl⟩ (fun r σ4 R6 hZ => ?_)
  obtain ⟨y1, e', cap', y2, y3, y4, y5, y6⟩ := hZ
  cases y1
  have hx4 : sx σ3 σ4 := by
    rcases y3 with ⟨-, -, -, h⟩ | ⟨-, -, -, q3, h⟩
    · rw [h]; exact sx.rf
    · rw [h]; exact sx.new (by omega) (by rw [s30 (f + 2) (by omega) (by omega)]; exact hf.2 (f + 2) (by omega))
  have hfr4 : fr (f + 3) σ4 := by
    have hb : fr (f + 3) σ3 := ⟨by omega, fun a ha => by rw [s30 a (by omega) (by omega)]; exact hf.2 a (by omega)⟩
    rcases y3 with ⟨-, -, -, h⟩ | ⟨-, -, -, q3, h⟩
    · rw [h]; exact hb
    · rw [h]; exact hb.new (by omega) (Int.le_refl _)
  have he' : e' = e3 ∨ e' = f + 2 := y3.imp (fun h => h.1) (fun h => h.1)
  have hxx : sx σ σ4 := hx3.trans hx4
  have k7 : ∀ a, (σ a).2.1 ≠ 0 → a ≠ 3 → a ≠ e3 → R6 a = R a := fun a b1 b2 b3 => by
    have := hne a b1
    rw [y6 a b2 (by omega) (by omega), k6 a b2 b3 (by omega) (by omega)]
  have k8 : ∀ a, a < 1000 → a ≠ 3 → R6 a = R a := fun a b1 b2 => by
    rw [y6 a b2 (by omega) (by omega), k6 a b2 (by omega) (by omega) (by omega)]
  have e14 : (σ4 1).1 = (σ1 1).1 := by rw [hx4.at (t := 17) (n := 0) (by rw [s3 1 (by omega), s2 1 (by omega)]; exact hd11) (by decide)]; exact e13
  rw [← e14]
  refine x_pop d_D_build_45 rfl ?_
  refine x_iconst d_D_build_46 ?_
  refine x_istore_n d_D_build_47 2 rfl [some (.ref (σ4 1).1), some (.ref qa), some (vi ((0 : Nat) : Int)), none, none] rfl rfl (lr rfl) ?_
  have hl0 := (hw.2.2 0 (Int.le_refl _) (by omega)).1
  refine V.widen (4 + 0) (70 + 64 * 0) (lr rfl) (lr rfl) (v_D_used hD g ρ e2 e3 f cap2 qa hf (fun σ1 R1 u m e cap f1 h => fin σ1 R1 u m e cap f1 qa h) _ 0 σ4 R6 (fun _ => 10) 1 e' cap' (f + 3) rfl (by show (0 : Int) ≤ g.1; omega) ⟨hxx, hfr4, by omega, ruk σ4 R6 hxx k7, hpr.keep (k8 12 (by decide) (by decide)) (k8 13 (by decide) (by decide)) (k8 14 (by decide) (by decide)), ⟨uPk.zero, y2, ?_, by omega, ?_, fun j j0 j1 => ?_⟩, ?_, by omega, fun a b1 b2 b3 => k7 a b1 b2 b3⟩)
  · rcases y3 with ⟨-, h, -⟩ | ⟨-, h, -⟩
    · rw [h]; exact hc3
    · refine Or.inr ?_
      rw [h]
      unfold nwc
      rcases hc3 with h2 | h2
      · rw [if_pos h2]; exact Nat.le_refl _
      · rw [if_neg (by omega)]; omega
  · have h5f1 : R6 (f + 1) = R3 (f + 1) := by rw [y6 _ (by omega) (by omega) (by omega), k5 _ (by omega)]
    refine ⟨by rw [hx4.at (t := 18) (n := 0) (by rw [s3f]) (by decide), s3f], by rw [hx4.at (t := 32) (n := 1) (by rw [s3f1]) (by decide), s3f1], by decide, by rw [y6 f (by omega) (by omega) (by omega), z3]; rfl, by omega, fun i i0 i1 => ?_⟩
    have ei : i = 0 := by omega
    rw [ei, h5f1, xr_s hR3]
    refine ⟨?_, by show 0 ≤ 6 + g.2.1 0; omega, by show 6 + g.2.1 0 ≤ 11; omega⟩
    show 7 + g.2.1 0 = dy (6 + g.2.1 0)
    unfold dy
    rw [if_neg (by omega)]
    omega
  · have ej : j = 0 := by omega
    rw [ej, y5]
    unfold uRg
    rw [if_pos rfl, hx4.at (t := 18) (n := 0) (by rw [s3f]) (by decide), s3f]
  · rcases he' with h | h <;> omega
