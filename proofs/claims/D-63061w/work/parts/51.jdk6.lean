/-! StringBuilder: length, isLatin1, room -/
/-- a builder at region k: n signs of one byte each, in the 16 places of region k + 1 -/
def sbI (σ : xS) (R : xR) (k n : Int) : Prop := (σ k).2 = (21, 0) ∧ (σ (k + 1)).2 = (35, 16) ∧ R k 1 = 0 ∧ R k 3 = n ∧ (0 ≤ n ∧ n ≤ 10)
theorem w_cs18 : Cond.fieldLink "java/lang/AbstractStringBuilder" 18 "java/lang/String" "COMPACT_STRINGS" "Z" ∈ xtb := xin 70 (by decide +kernel) (by decide +kernel)
theorem w_cs38 : Cond.fieldLink "java/lang/String" 38 "java/lang/String" "COMPACT_STRINGS" "Z" ∈ xtb := xin 446 (by decide +kernel) (by decide +kernel)
theorem w_supSB : Cond.superclass "java/lang/StringBuilder" "java/lang/AbstractStringBuilder" ∈ xtb := xin 92 (by decide +kernel) (by decide +kernel)
theorem c_ASB_length {σ : xS} {R : xR} (k n : Int) (h : sbI σ R k n) : Ct m_ASB_length 1 0 0 [.ref (σ k).1] σ R (Zi σ R n) := by
  refine Ct.of [some (.ref (σ k).1)] rfl (by decide +kernel) (lr rfl) (fun X => ?_)
  refine x_aload_n d_ASB_length_0 0 rfl rfl ?_
  refine x_geti k 3 3 n fl_ASB_79 tk_21_3 h.1 rfl rfl h.2.2.2.1 d_ASB_length_1 ?_
  exact x_iret d_ASB_length_4 rfl (lr rfl) (lr rfl) ⟨rfl, rfl, rfl⟩
theorem c_SB_length {σ : xS} {R : xR} (k n : Int) (h : sbI σ R k n) : Ct m_SB_length 2 0 0 [.ref (σ k).1] σ R (Zi σ R n) := by
  refine Ct.of [some (.ref (σ k).1)] rfl (by decide +kernel) (lr rfl) (fun X => ?_)
  refine x_aload_n d_SB_length_0 0 rfl rfl ?_
  refine x_callSU (As := []) (ci := 4) (C := R_SB) (c_ASB_length k n h) mk_ASB_length (xin 181 (by decide +kernel) (by decide +kernel)) (xin 1076 (by decide +kernel) (by decide +kernel)) w_supSB (xin 182 (by decide +kernel) (by decide +kernel)) (by decide) k h.1 rfl (by decide) rfl rfl rfl (lr rfl) d_SB_length_1 (lr rfl) ⟨lr rfl, lr rfl⟩ (fun r σ' R' hZ => ?_)
  obtain ⟨h1, h2, h3⟩ := hZ
  cases h1
  subst h2
  subst h3
  exact x_iret d_SB_length_4 rfl (lr rfl) (lr rfl) ⟨rfl, rfl, rfl⟩
theorem c_ASB_isLatin1 {σ : xS} {R : xR} (k n : Int) (h : sbI σ R k n) : Ct m_ASB_isLatin1 1 0 0 [.ref (σ k).1] σ R (Zi σ R 1) := by
  refine Ct.of [some (.ref (σ k).1)] rfl (by decide +kernel) (lr rfl) (fun X => ?_)
  refine x_getsC w_cs18 d_ASB_isLatin1_0 ?_
  refine x_if_eq (tgt := 17) d_ASB_isLatin1_3 rfl (by omega) (fun c => ?_) (fun c => ?_)
  · omega
  refine x_aload_n d_ASB_isLatin1_6 0 rfl rfl ?_
  refine x_geti k 1 1 0 fl_ASB_22 tk_21_1 h.1 rfl rfl h.2.2.1 d_ASB_isLatin1_7 ?_
  refine x_if_ne (tgt := 17) d_ASB_isLatin1_10 rfl (by omega) (fun c => ?_) (fun c => ?_)
  · omega
  refine x_iconst d_ASB_isLatin1_13 ?_
  refine x_goto (tgt := 18) d_ASB_isLatin1_14 rfl ?_
  exact x_zret d_ASB_isLatin1_18 rfl (narz (Or.inr rfl)) (lr rfl) (lr rfl) ⟨rfl, rfl, rfl⟩
theorem c_L1_canEncode {σ : xS} {R : xR} (c : Int) (hc : 0 ≤ c ∧ c ≤ 255) : Ct m_L1_canEncode 1 0 0 [vi c] σ R (Zi σ R 1) := by
  refine Ct.of [some (vi c)] rfl (by decide +kernel) (lr rfl) (fun X => ?_)
  refine x_iload_n d_L1_canEncode_0 0 rfl rfl ?_
  refine x_sipush d_L1_canEncode_1 rfl ?_
  refine x_icmp_gt (tgt := 11) d_L1_canEncode_4 rfl (by omega) (by omega) (fun c => ?_) (fun c => ?_)
  · omega
  refine x_iconst d_L1_canEncode_7 ?_
  refine x_goto (tgt := 12) d_L1_canEncode_8 rfl ?_
  exact x_zret d_L1_canEncode_12 rfl (narz (Or.inr rfl)) (lr rfl) (lr rfl) ⟨rfl, rfl, rfl⟩
theorem c_ASB_ensure {σ : xS} {R : xR} (k n m : Int) (h : sbI σ R k n) (hm : 0 ≤ m ∧ m ≤ 16) : Ct m_ASB_ensureCapacityInternal 1 0 0 [.ref (σ k).1, vi m] σ R (Zv σ (fun R' => R' = R)) := by
  refine Ct.of [some (.ref (σ k).1), some (vi m), none] rfl (by decide +kernel) (lr rfl) (fun X => ?_)
  refine x_aload_n d_ASB_ensureCapacityInternal_0 0 rfl rfl ?_
  refine x_get3 k 0 (k + 1) fl_ASB_15 tk_21_0 h.1 rfl rfl d_ASB_ensureCapacityInternal_1 ?_
  refine x_len (k + 1) h.2.1 rfl (by decide) d_ASB_ensureCapacityInternal_4 ?_
  refine x_aload_n d_ASB_ensureCapacityInternal_5 0 rfl rfl ?_
  refine x_geti k 1 1 0 fl_ASB_22 tk_21_1 h.1 rfl rfl h.2.2.1 d_ASB_ensureCapacityInternal_6 ?_
  refine x_ishr d_ASB_ensureCapacityInternal_9 16 (by decide) ?_
  refine x_istore_n d_ASB_ensureCapacityInternal_10 2 rfl [some (.ref (σ k).1), some (vi m), some (vi 16)] rfl rfl (lr rfl) ?_
  refine x_iload_n d_ASB_ensureCapacityInternal_11 1 rfl rfl ?_
  refine x_iload_n d_ASB_ensureCapacityInternal_12 2 rfl rfl ?_
  refine x_isub d_ASB_ensureCapacityInternal_13 ?_
  refine x_if_le (tgt := 38) d_ASB_ensureCapacityInternal_14 rfl (by omega) (fun c => ?_) (fun c => ?_)
  · exact x_vret d_ASB_ensureCapacityInternal_38 rfl (lr rfl) (lr rfl) ⟨rfl, rfl, rfl⟩
  · omega
