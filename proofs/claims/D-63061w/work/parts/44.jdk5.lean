/-! ArrayList: clear, <init> -/
theorem oi_ABC : Cond.methodLink "java/util/AbstractCollection" 1 Lib.objectInit ∈ xtb := xin 46 (by decide +kernel) (by decide +kernel)
theorem oi_ASB : Cond.methodLink "java/lang/AbstractStringBuilder" 3 Lib.objectInit ∈ xtb := xin 69 (by decide +kernel) (by decide +kernel)
theorem oi_Str : Cond.methodLink "java/lang/String" 1 Lib.objectInit ∈ xtb := xin 328 (by decide +kernel) (by decide +kernel)
theorem oi_Thr : Cond.methodLink "java/lang/Throwable" 1 Lib.objectInit ∈ xtb := xin 370 (by decide +kernel) (by decide +kernel)
theorem c_ABC_init {σ : xS} {R : xR} (K : Int) : Ct m_ABC_init 1 0 0 [.ref (σ K).1] σ R (Zv σ (fun R' => R' = R)) := by
  refine Ct.of [some (.ref (σ K).1)] rfl (by decide +kernel) (lr rfl) (fun X => ?_)
  refine x_aload_n d_ABC_init_0 0 rfl rfl ?_
  refine x_objInit oi_ABC oi_in oi_co (lr rfl) d_ABC_init_1 (lr rfl) ?_
  exact x_vret d_ABC_init_4 rfl (lr rfl) (lr rfl) ⟨rfl, rfl, rfl⟩
theorem c_ABL_init {σ : xS} {R : xR} (K : Int) (hK : (σ K).2 = (4, 0)) : Ct m_ABL_init 2 0 0 [.ref (σ K).1] σ R (Zv σ (fun R' => R' = xup R K 2 0)) := by
  refine Ct.of [some (.ref (σ K).1)] rfl (by decide +kernel) (lr rfl) (fun X => ?_)
  refine x_aload_n d_ABL_init_0 0 rfl rfl ?_
  refine x_ci (As := []) (c_ABC_init K) cs_ABL_1 rfl rfl (lr rfl) d_ABL_init_1 (lr rfl) ⟨lr rfl, lr rfl⟩ (fun r σ' R' hZ => ?_)
  obtain ⟨h1, h2, h3⟩ := hZ
  cases h1
  subst h2
  subst h3
  refine x_aload_n d_ABL_init_4 0 rfl rfl ?_
  refine x_iconst d_ABL_init_5 ?_
  refine x_puti K 2 2 fp_ABL_7 tk_4_2 hK rfl rfl d_ABL_init_6 (fun R1 hR1 => ?_)
  exact x_vret d_ABL_init_9 rfl (lr rfl) (lr rfl) ⟨rfl, rfl, hR1⟩
theorem c_AL_init {σ : xS} {R : xR} (K : Int) (hK : (σ K).2 = (4, 0)) : Ct m_AL_init 3 0 0 [.ref (σ K).1] σ R (Zv σ (fun R' => R' = xup (xup R K 2 0) K 0 (((σ 90).1 : Int) + 1))) := by
  refine Ct.of [some (.ref (σ K).1)] rfl (by decide +kernel) (lr rfl) (fun X => ?_)
  refine x_aload_n d_AL_init_0 0 rfl rfl ?_
  refine x_ci (As := []) (c_ABL_init K hK) cs_AL_1 rfl rfl (lr rfl) d_AL_init_1 (lr rfl) ⟨lr rfl, lr rfl⟩ (fun r σ' R' hZ => ?_)
  obtain ⟨h1, h2, h3⟩ := hZ
  cases h1
  subst h2
  subst h3
  refine x_aload_n d_AL_init_4 0 rfl rfl ?_
  refine x_getsE w_flE d_AL_init_5 ?_
  refine x_putr K 0 0 (((σ' 90).1 : Int) + 1) fp_AL_9 tk_4_0 hK rfl rfl rfl ⟨rfl, rfl⟩ d_AL_init_8 (fun R1 hR1 => ?_)
  exact x_vret d_AL_init_11 rfl (lr rfl) (lr rfl) ⟨rfl, rfl, hR1⟩
set_option maxHeartbeats 4000000 in
theorem c_AL_clear {σ : xS} {R : xR} (K e n : Int) (cap : Nat) (hA : alI σ R K e n cap) : Ct m_AL_clear 1 0 0 [.ref (σ K).1] σ R (Zv σ (fun R' => alI σ R' K e 0 cap ∧ ∀ a, a ≠ K → a ≠ e → R' a = R a)) := by
  refine Ct.of [some (.ref (σ K).1), none, none, none] rfl (by decide +kernel) (lr rfl) (fun X => ?_)
  obtain ⟨hK, hn1, hn2, hcp, hcase⟩ := hA
  obtain ⟨ea, hea⟩ : ∃ ea : Nat, R K 0 = (ea : Int) + 1 := by
    rcases hcase with ⟨-, h⟩ | ⟨-, -, -, h⟩
    · exact ⟨_, h⟩
    · exact ⟨_, h⟩
  have hl : ∀ (m : Nat) (i : Int) (R1 : xR), (n - i).toNat = m → (0 ≤ i ∧ i ≤ n) → alI σ R1 K e 0 cap → (∀ a, a ≠ K → a ≠ e → R1 a = R a) → V X m_AL_clear (1, 0, 0, Zv σ (fun R' => alI σ R' K e 0 cap ∧ ∀ a, a ≠ K → a ≠ e → R' a = R a)) σ R1 0 0 27 [some (.ref (σ K).1), some (.ref ea), some (vi n), some (vi i)] [] := by
    intro m
    induction m using Nat.strongRecOn with
    | _ m ih =>
      intro i R1 hm hi hA1 hk1
      refine x_iload_n d_AL_clear_27 3 rfl rfl ?_
      refine x_iload_n d_AL_clear_28 2 rfl rfl ?_
      refine x_icmp_ge (tgt := 42) d_AL_clear_29 rfl (by omega) (by omega) (fun c => ?_) (fun c => ?_)
      · exact x_vret d_AL_clear_42 rfl (lr rfl) (lr rfl) ⟨rfl, rfl, hA1, hk1⟩
      · rcases hcase with ⟨h0, h⟩ | ⟨h0, h1, h2, h⟩
        · omega
        · have e1 : ea = (σ e).1 := by omega
          subst e1
          refine x_aload_n d_AL_clear_32 1 rfl rfl ?_
          refine x_iload_n d_AL_clear_33 3 rfl rfl ?_
          refine x_null d_AL_clear_34 ?_
          refine x_aastN e h2 rfl (by omega) (by omega) d_AL_clear_35 (fun R2 hR2 => ?_)
          refine x_iinc d_AL_clear_36 rfl [some (.ref (σ K).1), some (.ref (σ e).1), some (vi n), some (vi (i + 1))] rfl rfl (lr rfl) ?_
          refine x_goto (tgt := 27) d_AL_clear_39 rfl ?_
          have hKe : K ≠ e := fun q => h1 q.symm
          refine ih _ (by omega) (i + 1) R2 rfl (by omega) ⟨hA1.1, (xr_o hR2 hKe).trans hA1.2.1, hA1.2.2.1, hA1.2.2.2.1, Or.inr ⟨h0, h1, h2, (xr_o hR2 hKe).trans ?_⟩⟩ (fun a a1 a2 => by rw [← hk1 a a1 a2]; funext j; exact xr_o hR2 a2)
          rcases hA1.2.2.2.2 with ⟨g0, -⟩ | ⟨-, -, -, g⟩
          · exact absurd g0 h0
          · exact g
  refine x_aload_n d_AL_clear_0 0 rfl rfl ?_
  refine x_dup d_AL_clear_1 rfl ?_
  refine x_geti K 2 2 (R K 2) fl_AL_63 tk_4_2 hK rfl rfl rfl d_AL_clear_2 ?_
  refine x_iconst d_AL_clear_5 ?_
  refine x_iadd d_AL_clear_6 ?_
  refine x_puti K 2 2 fp_AL_63 tk_4_2 hK rfl rfl d_AL_clear_7 (fun R1 hR1 => ?_)
  refine x_aload_n d_AL_clear_10 0 rfl rfl ?_
  refine x_getr K 0 0 ((ea : Int) + 1) fl_AL_9 tk_4_0 hK rfl rfl ((xr_d hR1 (by decide)).trans hea) d_AL_clear_11 ?_
  refine x_astore_n d_AL_clear_14 1 rfl [some (.ref (σ K).1), some (.ref ea), none, none] rfl rfl (lr rfl) ?_
  refine x_aload_n d_AL_clear_15 0 rfl rfl ?_
  refine x_geti K 1 1 n fl_AL_48 tk_4_1 hK rfl rfl ((xr_d hR1 (by decide)).trans hn1) d_AL_clear_16 ?_
  refine x_istore_n d_AL_clear_19 2 rfl [some (.ref (σ K).1), some (.ref ea), some (vi n), none] rfl rfl (lr rfl) ?_
  refine x_aload_n d_AL_clear_20 0 rfl rfl ?_
  refine x_iconst d_AL_clear_21 ?_
  refine x_dup_x1 d_AL_clear_22 rfl rfl ?_
  refine x_puti K 1 1 fp_AL_48 tk_4_1 hK rfl rfl d_AL_clear_23 (fun R2 hR2 => ?_)
  refine x_istore_n d_AL_clear_26 3 rfl [some (.ref (σ K).1), some (.ref ea), some (vi n), some (vi 0)] rfl rfl (lr rfl) ?_
  refine hl _ 0 R2 rfl (by omega) ⟨hK, xr_s hR2, by omega, hcp, ?_⟩ (fun a a1 a2 => by funext j; rw [xr_o hR2 a1, xr_o hR1 a1])
  rcases hcase with ⟨h0, h⟩ | ⟨h0, h1, h2, h⟩
  · exact Or.inl ⟨h0, by rw [xr_d hR2 (by decide), xr_d hR1 (by decide)]; exact h⟩
  · exact Or.inr ⟨h0, h1, h2, by rw [xr_d hR2 (by decide), xr_d hR1 (by decide)]; exact h⟩
