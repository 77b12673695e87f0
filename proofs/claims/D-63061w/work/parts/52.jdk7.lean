/-! StringBuilder: append -/
def nIsL : MethodName := ⟨"java/lang/AbstractStringBuilder", "isLatin1", "()Z"⟩
theorem w_islS : Cond.selects "java/lang/StringBuilder" nIsL nIsL ∈ xtb := xin 229 (by decide +kernel) (by decide +kernel)
theorem w_islM : Cond.sameMethod "java/lang/AbstractStringBuilder" "java/lang/AbstractStringBuilder" "isLatin1" "()Z" ∈ xtb := xin 228 (by decide +kernel) (by decide +kernel)
theorem w_islI : Cond.instanceMethod nIsL ∈ xtb := xin 227 (by decide +kernel) (by decide +kernel)
theorem w_islC : Cond.code nIsL prog_7_method_68_code 1 (some .boolean) ∈ xtb := xin 230 (by decide +kernel) (by decide +kernel)
theorem w_ensI : Cond.instanceMethod m_ASB_ensureCapacityInternal.1 ∈ xtb := xin 193 (by decide +kernel) (by decide +kernel)
theorem i2b_c {c : Int} (h : 0 ≤ c ∧ c < 128) : (iI c).toInt8.toInt32 = iI c := by
  obtain ⟨n, rfl⟩ := Int.eq_ofNat_of_zero_le h.1
  have key : ∀ m : Fin 128, (iI (m.val : Int)).toInt8.toInt32 = iI (m.val : Int) := by decide +kernel
  exact key ⟨n, by omega⟩
set_option maxHeartbeats 4000000 in
theorem c_ASB_append {σ : xS} {R : xR} (k n c : Int) (h : sbI σ R k n) (hn : n ≤ 9) (hc : 0 ≤ c ∧ c ≤ 126) : Ct m_ASB_append 2 0 0 [.ref (σ k).1, vi c] σ R (fun o σ' R' => o = .returned (some (.ref (σ k).1)) ∧ σ' = σ ∧ R' = xup (xup R k 3 (n + 1)) (k + 1) n c) := by
  refine Ct.of [some (.ref (σ k).1), some (vi c)] rfl (by decide +kernel) (lr rfl) (fun X => ?_)
  have hn0 := h.2.2.2.2
  refine x_aload_n d_ASB_append_0 0 rfl rfl ?_
  refine x_aload_n d_ASB_append_1 0 rfl rfl ?_
  refine x_geti k 3 3 n fl_ASB_79 tk_21_3 h.1 rfl rfl h.2.2.2.1 d_ASB_append_2 ?_
  refine x_iconst d_ASB_append_5 ?_
  refine x_iadd d_ASB_append_6 ?_
  refine x_callP nIsL (As := [vi (n + 1)]) (ci := 4) (C := R_SB) (C0 := "java/lang/StringBuilder") (c_ASB_ensure k n (n + 1) h (by omega)) mk_ASB_ensureCapacityInternal (xin 191 (by decide +kernel) (by decide +kernel)) w_ensI rfl w_islS 192 (by decide +kernel) k h.1 rfl (by decide) rfl rfl rfl (lr rfl) d_ASB_append_7 (lr rfl) ⟨lr rfl, lr rfl⟩ (fun r σ' R' hZ => ?_)
  obtain ⟨h1, h2, h3⟩ := hZ
  cases h1
  subst h2
  subst h3
  refine x_aload_n d_ASB_append_10 0 rfl rfl ?_
  refine x_callU (As := []) (x := nIsL) (owner := "java/lang/AbstractStringBuilder") (ci := 4) (C := R_SB) (c_ASB_isLatin1 k n h) mk_ASB_isLatin1 (xin 226 (by decide +kernel) (by decide +kernel)) w_islM w_islI w_islS w_islI w_islC (by decide +kernel) k h.1 rfl (by decide) rfl rfl rfl (lr rfl) d_ASB_append_11 (lr rfl) ⟨lr rfl, lr rfl⟩ (fun r σ' R' hZ => ?_)
  obtain ⟨h1, h2, h3⟩ := hZ
  cases h1
  subst h2
  subst h3
  refine x_if_eq (tgt := 45) d_ASB_append_14 rfl (by omega) (fun c => ?_) (fun c => ?_)
  · omega
  refine x_iload_n d_ASB_append_17 1 rfl rfl ?_
  refine x_csi (As := [vi _]) (c_L1_canEncode _ (by omega)) cs_ASB_191 rfl rfl (lr rfl) d_ASB_append_18 (lr rfl) ⟨lr rfl, lr rfl⟩ ?_
  refine x_if_eq (tgt := 45) d_ASB_append_21 rfl (by omega) (fun c => ?_) (fun c => ?_)
  · omega
  refine x_aload_n d_ASB_append_24 0 rfl rfl ?_
  refine x_get3 k 0 (k + 1) fl_ASB_15 tk_21_0 h.1 rfl rfl d_ASB_append_25 ?_
  refine x_aload_n d_ASB_append_28 0 rfl rfl ?_
  refine x_dup d_ASB_append_29 rfl ?_
  refine x_geti k 3 3 n fl_ASB_79 tk_21_3 h.1 rfl rfl h.2.2.2.1 d_ASB_append_30 ?_
  refine x_dup_x1 d_ASB_append_33 rfl rfl ?_
  refine x_iconst d_ASB_append_34 ?_
  refine x_iadd d_ASB_append_35 ?_
  refine x_puti k 3 3 fp_ASB_79 tk_21_3 h.1 rfl rfl d_ASB_append_36 (fun R1 hR1 => ?_)
  refine x_iload_n d_ASB_append_39 1 rfl rfl ?_
  refine x_i2b d_ASB_append_40 _ (i2b_c (by omega)) ?_
  refine x_bast (k + 1) h.2.1 rfl ⟨by decide, rfl, by decide⟩ rfl (by omega) (narb (by omega)) d_ASB_append_41 (fun R2 hR2 => ?_)
  refine x_goto (tgt := 75) d_ASB_append_42 rfl ?_
  refine x_aload_n d_ASB_append_75 0 rfl rfl ?_
  exact x_aret d_ASB_append_76 rfl (Or.inl ⟨_, rfl⟩) (Or.inr ⟨_, rfl⟩) (lr rfl) (lr rfl) ⟨rfl, rfl, by rw [hR2, hR1]⟩
