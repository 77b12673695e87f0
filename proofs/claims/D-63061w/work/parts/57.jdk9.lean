/-! String: made of a builder; length, charAt -/
/-- a String at region k: n signs of one byte each, at region k + 1 -/
def stI (σ : xS) (R : xR) (k : Int) (n : Nat) : Prop := (σ k).2 = (22, 0) ∧ (σ (k + 1)).2 = (35, n) ∧ R k 1 = 0 ∧ n ≤ 16
/-- a String comes of the builder b: at region k -/
def stN (σ : xS) (R : xR) (k b : Int) (n : Nat) (σ' : xS) (R' : xR) : Prop := (∃ q a, σ' = xsu (xsu σ (k + 1) (q, 35, n)) k (a, 22, 0)) ∧ R' k 1 = 0 ∧ (∀ i, 0 ≤ i → i < (n : Int) → R' (k + 1) i = R (b + 1) i) ∧ ∀ a, a ≠ k → a ≠ k + 1 → R' a = R a
def nGv : MethodName := ⟨"java/lang/AbstractStringBuilder", "getValue", "()[B"⟩
def nLn : MethodName := ⟨"java/lang/AbstractStringBuilder", "length", "()I"⟩
set_option maxHeartbeats 4000000 in
theorem c_Str_init2 {σ : xS} {R : xR} (k b : Int) (n : Nat) (hk : (σ k).2 = (6, 0)) (h9 : k < 90 ∨ 99 < k) (h91 : k + 1 < 90 ∨ 99 < k + 1) (hf : (σ (k + 1)).2.1 = 0) (h : sbI σ R b n) (hel : ∀ i, 0 ≤ i → i < (n : Int) → -128 ≤ R (b + 1) i ∧ R (b + 1) i < 128) : Ct m_Str_init2 4 1 16 [.ref (σ k).1, .ref (σ b).1, .null] σ R (fun o σ' R' => o = .returned none ∧ stN σ R k b n σ' R' ∧ (σ' k).1 = (σ k).1) := by
  refine Ct.of [some (.ref (σ k).1), some (.ref (σ b).1), some .null, none, none] rfl (by decide +kernel) (lr rfl) (fun X => ?_)
  have hkk : k ≠ k + 1 := by omega
  have hbk : b ≠ k := fun e => by have h1 := h.1; rw [e, hk] at h1; cases h1
  have hbk1 : b ≠ k + 1 := fun e => by have h1 := h.1; rw [← e, h1] at hf; cases hf
  have hb1k : b + 1 ≠ k := fun e => by have h1 := h.2.1; rw [e, hk] at h1; cases h1
  have hn := h.2.2.2.2
  refine x_aload_n d_Str_init2_0 0 rfl rfl ?_
  refine x_objInit oi_Str oi_in oi_co (lr rfl) d_Str_init2_1 (lr rfl) ?_
  refine x_aload_n d_Str_init2_4 1 rfl rfl ?_
  refine x_callU (As := []) (x := nGv) (owner := "java/lang/AbstractStringBuilder") (ci := 4) (C := R_SB) (c_ASB_getValue b n h) mk_ASB_getValue (xin 329 (by decide +kernel) (by decide +kernel)) (xin 331 (by decide +kernel) (by decide +kernel)) (xin 330 (by decide +kernel) (by decide +kernel)) (xin 332 (by decide +kernel) (by decide +kernel)) (xin 330 (by decide +kernel) (by decide +kernel)) mk_ASB_getValue.1 (by decide +kernel) b h.1 rfl (by decide) rfl rfl rfl (lr rfl) d_Str_init2_5 (lr rfl) ⟨lr rfl, lr rfl⟩ (fun r σ' R' hZ => ?_)
  obtain ⟨h1, h2, h3⟩ := hZ
  cases h1
  subst h2
  subst h3
  refine x_astore_n d_Str_init2_8 3 rfl [some (.ref (σ' k).1), some (.ref (σ' b).1), some .null, some (.ref (σ' (b + 1)).1), none] rfl rfl (lr rfl) ?_
  refine x_aload_n d_Str_init2_9 1 rfl rfl ?_
  refine x_callU (As := []) (x := nLn) (owner := "java/lang/AbstractStringBuilder") (ci := 4) (C := R_SB) (c_SB_length b n h) mk_SB_length (xin 334 (by decide +kernel) (by decide +kernel)) (xin 1076 (by decide +kernel) (by decide +kernel)) (xin 182 (by decide +kernel) (by decide +kernel)) (xin 1081 (by decide +kernel) (by decide +kernel)) (xin 178 (by decide +kernel) (by decide +kernel)) mk_ASB_length.1 (by decide +kernel) b h.1 rfl (by decide) rfl rfl rfl (lr rfl) d_Str_init2_10 (lr rfl) ⟨lr rfl, lr rfl⟩ (fun r σ2 R2 hZ => ?_)
  obtain ⟨h1, h2, h3⟩ := hZ
  cases h1
  subst h2
  subst h3
  refine x_istore d_Str_init2_13 [some (.ref (σ2 k).1), some (.ref (σ2 b).1), some .null, some (.ref (σ2 (b + 1)).1), some (vi (n : Int))] rfl rfl (lr rfl) ?_
  refine x_aload_n d_Str_init2_15 1 rfl rfl ?_
  refine x_callU (As := []) (x := nIsL) (owner := "java/lang/AbstractStringBuilder") (ci := 4) (C := R_SB) (c_ASB_isLatin1 b n h) mk_ASB_isLatin1 (xin 335 (by decide +kernel) (by decide +kernel)) w_islM w_islI w_islS w_islI w_islC (by decide +kernel) b h.1 rfl (by decide) rfl rfl rfl (lr rfl) d_Str_init2_16 (lr rfl) ⟨lr rfl, lr rfl⟩ (fun r σ3 R3 hZ => ?_)
  obtain ⟨h1, h2, h3⟩ := hZ
  cases h1
  subst h2
  subst h3
  refine x_if_eq (tgt := 41) d_Str_init2_19 rfl (by omega) (fun c => ?_) (fun c => ?_)
  · omega
  refine x_aload_n d_Str_init2_22 0 rfl rfl ?_
  refine x_iconst d_Str_init2_23 ?_
  refine x_putFi k 1 1 ff_Str_15 rfl tk_6_1 hk rfl rfl ⟨rfl, rfl⟩ d_Str_init2_24 (fun R1 hR1 => ?_)
  refine x_aload_n d_Str_init2_27 0 rfl rfl ?_
  refine x_aload_n d_Str_init2_28 3 rfl rfl ?_
  refine x_iconst d_Str_init2_29 ?_
  refine x_iload d_Str_init2_30 rfl ?_
  refine x_cs (As := [.ref (σ3 (b + 1)).1, vi 0, vi (n : Int)]) (c_Arr_copyOfRange (b + 1) (k + 1) 16 n h.2.1 h91 hf (by omega) (fun i i1 i2 => by rw [xr_o hR1 hb1k]; exact hel i i1 i2)) cs_Str_54 rfl rfl (lr rfl) d_Str_init2_32 (lr rfl) ⟨lr rfl, lr rfl⟩ (fun r σ4 R4 hZ => ?_)
  obtain ⟨q, h1, h2, h3, h4⟩ := hZ
  cases h1
  subst h2
  refine x_putFr k 0 0 ((q : Int) + 1) ff_Str_9 rfl tk_6_0 (by rw [xsu_ne _ _ hkk]; exact hk) (by rw [xsu_ne _ _ hkk]) rfl rfl ⟨rfl, rfl⟩ d_Str_init2_35 (fun R5 hR5 => ?_)
  refine x_goto (tgt := 97) d_Str_init2_38 rfl ?_
  refine V.made k 22 (C := R_Str) (T := F_Str) (N := 4) (a := (σ3 k).1) (t := 6) (n := 0) h9 (by rw [xsu_ne _ _ hkk]; exact Prod.ext rfl hk) (by decide) (by decide) rfl (fun j hj => ?_) (fun j hj c hc => ?_) ?_
  · rcases (show j = 0 ∨ j = 1 ∨ j = 2 ∨ j = 3 by omega) with rfl | rfl | rfl | rfl
    · show rz (R5 k 0) = Value.ref (xsu σ3 (k + 1) (q, 35, n) (k + 1)).1
      rw [xr_s hR5, xsu_self]
      rfl
    · rfl
    · rfl
    · rfl
  · rcases (show j = 0 ∨ j = 1 ∨ j = 2 ∨ j = 3 by omega) with rfl | rfl | rfl | rfl
    · have e : k + 1 = c := Option.some.inj hc
      rw [← e, xsu_self]
      show (35 : Nat) ≠ 0
      decide
    · cases hc
    · cases hc
    · cases hc
  · refine x_vret d_Str_init2_97 rfl (lr rfl) (lr rfl) ⟨rfl, ⟨⟨q, _, rfl⟩, ?_, fun i i1 i2 => ?_, fun a a1 a2 => ?_⟩, by rw [xsu_self]⟩
    · rw [xr_d hR5 (by decide), h4 k hkk, xr_s hR1]
    · rw [xr_o hR5 (fun e => hkk e.symm), h3 i i1 i2, xr_o hR1 hb1k]
    · funext i
      rw [xr_o hR5 a1, h4 a a2, xr_o hR1 a1]
theorem c_Str_init {σ : xS} {R : xR} (k b : Int) (n : Nat) (hk : (σ k).2 = (6, 0)) (h9 : k < 90 ∨ 99 < k) (h91 : k + 1 < 90 ∨ 99 < k + 1) (hf : (σ (k + 1)).2.1 = 0) (h : sbI σ R b n) (hel : ∀ i, 0 ≤ i → i < (n : Int) → -128 ≤ R (b + 1) i ∧ R (b + 1) i < 128) : Ct m_Str_init 5 1 16 [.ref (σ k).1, .ref (σ b).1] σ R (fun o σ' R' => o = .returned none ∧ stN σ R k b n σ' R' ∧ (σ' k).1 = (σ k).1) := by
  refine Ct.of [some (.ref (σ k).1), some (.ref (σ b).1)] rfl (by decide +kernel) (lr rfl) (fun X => ?_)
  refine x_aload_n d_Str_init_0 0 rfl rfl ?_
  refine x_aload_n d_Str_init_1 1 rfl rfl ?_
  refine x_null d_Str_init_2 ?_
  refine x_ci (As := [.ref (σ b).1, .null]) (c_Str_init2 k b n hk h9 h91 hf h hel) cs_Str_489 rfl rfl (lr rfl) d_Str_init_3 (lr rfl) ⟨lr rfl, lr rfl⟩ (fun r σ' R' hZ => ?_)
  obtain ⟨h1, h2⟩ := hZ
  cases h1
  exact x_vret d_Str_init_6 rfl (lr rfl) (lr rfl) ⟨rfl, h2⟩
theorem w_clSt : Cond.classLink "java/lang/StringBuilder" 18 "java/lang/String" ∈ xtb := xin 320 (by decide +kernel) (by decide +kernel)
theorem w_inSt : Cond.instantiable "java/lang/String" 4 ∈ xtb := xin 321 (by decide +kernel) (by decide +kernel)
theorem w_iniSt : Cond.initialized "java/lang/String" ∈ xtb := xin 7 (by decide +kernel) (by decide +kernel)
theorem raw_Str : ∀ j, j < 4 → xkd 6 j < 3 ∧ defaultValue (t_Str j) = xdv (xkd 6 j) := by decide
theorem c_SB_toString {σ : xS} {R : xR} (k b : Int) (n : Nat) (hk : (σ k).2.1 = 0) (h9 : k < 90 ∨ 99 < k) (h91 : k + 1 < 90 ∨ 99 < k + 1) (hf : (σ (k + 1)).2.1 = 0) (h : sbI σ R b n) (hel : ∀ i, 0 ≤ i → i < (n : Int) → -128 ≤ R (b + 1) i ∧ R (b + 1) i < 128) : Ct m_SB_toString 6 2 20 [.ref (σ b).1] σ R (fun o σ' R' => o = .returned (some (.ref (σ' k).1)) ∧ stN σ R k b n σ' R') := by
  refine Ct.of [some (.ref (σ b).1)] rfl (by decide +kernel) (lr rfl) (fun X => ?_)
  have hkk : k ≠ k + 1 := by omega
  have hbk : b ≠ k := fun e => by have h1 := h.1; rw [← e, h1] at hk; cases hk
  have hb1k : b + 1 ≠ k := fun e => by have h1 := h.2.1; rw [← e, h1] at hk; cases hk
  refine x_new k 6 (ci := 5) t_Str h9 hk (by decide) rfl i_Str t_Str_ok raw_Str w_clSt w_inSt w_iniSt d_SB_toString_0 ⟨lr rfl, lr rfl⟩ (fun q => ?_)
  refine x_dup d_SB_toString_3 rfl ?_
  refine x_aload_n d_SB_toString_4 0 rfl rfl ?_
  have hs' : (xsu σ k (q, 6, 0) k).2 = (6, 0) := by rw [xsu_self]
  have hq : (xsu σ k (q, 6, 0) k).1 = q := by rw [xsu_self]
  have hb' : sbI (xsu σ k (q, 6, 0)) (xru R k (fun _ => 0)) b n := by
    obtain ⟨g1, g2, g3, g4, g5⟩ := h
    exact ⟨by rw [xsu_ne _ _ hbk]; exact g1, by rw [xsu_ne _ _ hb1k]; exact g2, by rw [xru_ne _ _ hbk]; exact g3, by rw [xru_ne _ _ hbk]; exact g4, g5⟩
  have hc := c_Str_init (σ := xsu σ k (q, 6, 0)) (R := xru R k (fun _ => 0)) k b n hs' h9 h91 (by rw [xsu_ne _ _ (fun e => hkk e.symm)]; exact hf) hb' (fun i i1 i2 => by rw [xru_ne _ _ hb1k]; exact hel i i1 i2)
  rw [hq, xsu_ne _ _ hbk] at hc
  refine x_ci (As := [.ref (σ b).1]) hc cs_SB_137 rfl rfl (lr rfl) d_SB_toString_5 (lr rfl) ⟨lr rfl, lr rfl⟩ (fun r σ' R' hZ => ?_)
  obtain ⟨h1, ⟨⟨q2, a2, e2⟩, e3, e4, e5⟩, h3⟩ := hZ
  cases h1
  refine x_aret d_SB_toString_8 rfl (Or.inl ⟨_, rfl⟩) (Or.inr ⟨_, rfl⟩) (lr rfl) (lr rfl) ⟨by rw [h3], ⟨q2, a2, ?_⟩, e3, fun i i1 i2 => ?_, fun a a1 a3 => ?_⟩
  · rw [e2]
    funext a
    by_cases ea : a = k
    · rw [ea, xsu_self, xsu_self]
    · rw [xsu_ne _ _ ea, xsu_ne _ _ ea]
      by_cases eb : a = k + 1
      · rw [eb, xsu_self, xsu_self]
      · rw [xsu_ne _ _ eb, xsu_ne _ _ eb, xsu_ne _ _ ea]
  · rw [e4 i i1 i2, xru_ne _ _ hb1k]
  · rw [e5 a a1 a3, xru_ne _ _ a1]
theorem stI.rc {σ : xS} {R : xR} {k : Int} {n : Nat} (h : stI σ R k n) : xRc σ k (σ k).1 "java/lang/String" := ⟨rfl, 22, 0, 5, F_Str, 4, h.1, by decide, rfl⟩
theorem c_Str_coder {σ : xS} {R : xR} (k : Int) (n : Nat) (h : stI σ R k n) : Ct m_Str_coder 1 0 0 [.ref (σ k).1] σ R (Zi σ R 0) := by
  refine Ct.of [some (.ref (σ k).1)] rfl (by decide +kernel) (lr rfl) (fun X => ?_)
  refine x_getsC w_cs38 d_Str_coder_0 ?_
  refine x_if_eq (tgt := 13) d_Str_coder_3 rfl (by omega) (fun c => ?_) (fun c => ?_)
  · omega
  refine x_aload_n d_Str_coder_6 0 rfl rfl ?_
  refine x_geti k 1 1 0 fl_Str_15 tk_22_1 h.1 rfl rfl h.2.2.1 d_Str_coder_7 ?_
  refine x_goto (tgt := 14) d_Str_coder_10 rfl ?_
  exact x_zret d_Str_coder_14 rfl (narb (by omega)) (lr rfl) (lr rfl) ⟨rfl, rfl, rfl⟩
theorem c_Str_length {σ : xS} {R : xR} (k : Int) (n : Nat) (h : stI σ R k n) : Ct m_Str_length 2 0 0 [.ref (σ k).1] σ R (Zi σ R (n : Int)) := by
  refine Ct.of [some (.ref (σ k).1)] rfl (by decide +kernel) (lr rfl) (fun X => ?_)
  have hn := h.2.2.2
  refine x_aload_n d_Str_length_0 0 rfl rfl ?_
  refine x_get3 k 0 (k + 1) fl_Str_9 tk_22_0 h.1 rfl rfl d_Str_length_1 ?_
  refine x_len (k + 1) h.2.1 rfl (by decide) d_Str_length_4 ?_
  refine x_aload_n d_Str_length_5 0 rfl rfl ?_
  refine x_cvi k (As := []) (c_Str_coder k n h) cs_Str_335 h.rc rfl rfl (lr rfl) d_Str_length_6 (lr rfl) ⟨lr rfl, lr rfl⟩ ?_
  refine x_ishr d_Str_length_9 (n : Int) ?_ ?_
  · rw [iI_nat]
    exact sb_shr0 _
  exact x_iret d_Str_length_10 rfl (lr rfl) (lr rfl) ⟨rfl, rfl, rfl⟩
theorem c_Str_isLatin1 {σ : xS} {R : xR} (k : Int) (n : Nat) (h : stI σ R k n) : Ct m_Str_isLatin1 1 0 0 [.ref (σ k).1] σ R (Zi σ R 1) := by
  refine Ct.of [some (.ref (σ k).1)] rfl (by decide +kernel) (lr rfl) (fun X => ?_)
  refine x_getsC w_cs38 d_Str_isLatin1_0 ?_
  refine x_if_eq (tgt := 17) d_Str_isLatin1_3 rfl (by omega) (fun c => ?_) (fun c => ?_)
  · omega
  refine x_aload_n d_Str_isLatin1_6 0 rfl rfl ?_
  refine x_geti k 1 1 0 fl_Str_15 tk_22_1 h.1 rfl rfl h.2.2.1 d_Str_isLatin1_7 ?_
  refine x_if_ne (tgt := 17) d_Str_isLatin1_10 rfl (by omega) (fun c => ?_) (fun c => ?_)
  · omega
  refine x_iconst d_Str_isLatin1_13 ?_
  refine x_goto (tgt := 18) d_Str_isLatin1_14 rfl ?_
  exact x_zret d_Str_isLatin1_18 rfl (narz (Or.inr rfl)) (lr rfl) (lr rfl) ⟨rfl, rfl, rfl⟩
theorem c_Pre_checkIndexR {σ : xS} {R : xR} (i n : Int) (a : Nat) (hi : 0 ≤ i ∧ i < n) (hn : n < 2147483648) : Ct m_Pre_checkIndex 1 0 0 [vi i, vi n, .ref a] σ R (Zi σ R i) := by
  refine Ct.of [some (vi i), some (vi n), some (.ref a)] rfl (by decide +kernel) (lr rfl) (fun X => ?_)
  refine x_iload_n d_Pre_checkIndex_0 0 rfl rfl ?_
  refine x_if_lt (tgt := 9) d_Pre_checkIndex_1 rfl (by omega) (fun c1 => ?_) (fun c1 => ?_)
  · omega
  · refine x_iload_n d_Pre_checkIndex_4 0 rfl rfl ?_
    refine x_iload_n d_Pre_checkIndex_5 1 rfl rfl ?_
    refine x_icmp_lt (tgt := 16) d_Pre_checkIndex_6 rfl (by omega) (by omega) (fun c6 => ?_) (fun c6 => ?_)
    · refine x_iload_n d_Pre_checkIndex_16 0 rfl rfl ?_
      exact x_iret d_Pre_checkIndex_17 rfl (lr rfl) (lr rfl) (⟨rfl, rfl, rfl⟩)
    · omega
theorem w_fmt : Cond.fieldLink "java/lang/String" 1053 "jdk/internal/util/Preconditions" "SIOOBE_FORMATTER" "Ljava/util/function/BiFunction;" ∈ xtb := xin 253 (by decide +kernel) (by decide +kernel)
theorem c_Str_checkIndex {σ : xS} {R : xR} (i n : Int) (hi : 0 ≤ i ∧ i < n) (hn : n < 2147483648) : Ct m_Str_checkIndex 2 0 0 [vi i, vi n] σ R (Zv σ (fun R' => R' = R)) := by
  refine Ct.of [some (vi i), some (vi n)] rfl (by decide +kernel) (lr rfl) (fun X => ?_)
  refine x_iload_n d_Str_checkIndex_0 0 rfl rfl ?_
  refine x_iload_n d_Str_checkIndex_1 1 rfl rfl ?_
  refine x_gets4 w_fmt d_Str_checkIndex_2 ?_
  rcases rz_or ((σ 94).1 : Int) with hz | ⟨a, hz⟩
  · rw [hz]
    refine x_csi (As := [vi i, vi n, .null]) (c_Pre_checkIndex i n hi hn) cs_Str_1059 rfl rfl (lr rfl) d_Str_checkIndex_5 (lr rfl) ⟨lr rfl, lr rfl⟩ ?_
    refine x_pop d_Str_checkIndex_8 rfl ?_
    exact x_vret d_Str_checkIndex_9 rfl (lr rfl) (lr rfl) ⟨rfl, rfl, rfl⟩
  · rw [hz]
    refine x_csi (As := [vi i, vi n, .ref a]) (c_Pre_checkIndexR i n a hi hn) cs_Str_1059 rfl rfl (lr rfl) d_Str_checkIndex_5 (lr rfl) ⟨lr rfl, lr rfl⟩ ?_
    refine x_pop d_Str_checkIndex_8 rfl ?_
    exact x_vret d_Str_checkIndex_9 rfl (lr rfl) (lr rfl) ⟨rfl, rfl, rfl⟩
theorem and255 {c : Int} (h : 0 ≤ c ∧ c < 128) : iI c &&& iI 255 = iI c := by
  obtain ⟨n, rfl⟩ := Int.eq_ofNat_of_zero_le h.1
  have key : ∀ m : Fin 128, iI (m.val : Int) &&& iI 255 = iI (m.val : Int) := by decide +kernel
  exact key ⟨n, by omega⟩
theorem i2c_c {c : Int} (h : 0 ≤ c ∧ c < 128) : ((iI c).toUInt32 % 65536).toInt32 = iI c := by
  obtain ⟨n, rfl⟩ := Int.eq_ofNat_of_zero_le h.1
  have key : ∀ m : Fin 128, ((iI (m.val : Int)).toUInt32 % 65536).toInt32 = iI (m.val : Int) := by decide +kernel
  exact key ⟨n, by omega⟩
theorem c_L1_charAt {σ : xS} {R : xR} (e i : Int) (n : Nat) (he : (σ e).2 = (35, n)) (hn : n ≤ 16) (hi : 0 ≤ i ∧ i < (n : Int)) (hc : 0 ≤ R e i ∧ R e i < 128) : Ct m_L1_charAt 3 0 0 [.ref (σ e).1, vi i] σ R (Zi σ R (R e i)) := by
  refine Ct.of [some (.ref (σ e).1), some (vi i)] rfl (by decide +kernel) (lr rfl) (fun X => ?_)
  refine x_iload_n d_L1_charAt_0 1 rfl rfl ?_
  refine x_aload_n d_L1_charAt_1 0 rfl rfl ?_
  refine x_len e he rfl (by decide) d_L1_charAt_2 ?_
  refine x_csv (As := [vi i, vi (n : Int)]) (c_Str_checkIndex i (n : Int) hi (by omega)) cs_L1_9 rfl rfl (lr rfl) d_L1_charAt_3 (lr rfl) ⟨lr rfl, lr rfl⟩ (fun R1 hR1 => ?_)
  subst hR1
  refine x_aload_n d_L1_charAt_6 0 rfl rfl ?_
  refine x_iload_n d_L1_charAt_7 1 rfl rfl ?_
  refine x_bald e (R1 e i) he rfl ⟨by decide, rfl, by omega⟩ rfl (by omega) rfl d_L1_charAt_8 ?_
  refine x_sipush d_L1_charAt_9 rfl ?_
  refine x_iand d_L1_charAt_12 (R1 e i) (and255 hc) ?_
  refine x_i2c d_L1_charAt_13 (R1 e i) (i2c_c hc) ?_
  exact x_zret d_L1_charAt_14 rfl (narc (by omega)) (lr rfl) (lr rfl) ⟨rfl, rfl, rfl⟩
theorem c_Str_charAt {σ : xS} {R : xR} (k i : Int) (n : Nat) (h : stI σ R k n) (hi : 0 ≤ i ∧ i < (n : Int)) (hc : 0 ≤ R (k + 1) i ∧ R (k + 1) i < 128) : Ct m_Str_charAt 4 0 0 [.ref (σ k).1, vi i] σ R (Zi σ R (R (k + 1) i)) := by
  refine Ct.of [some (.ref (σ k).1), some (vi i)] rfl (by decide +kernel) (lr rfl) (fun X => ?_)
  refine x_aload_n d_Str_charAt_0 0 rfl rfl ?_
  refine x_cvi k (As := []) (c_Str_isLatin1 k n h) cs_Str_492 h.rc rfl rfl (lr rfl) d_Str_charAt_1 (lr rfl) ⟨lr rfl, lr rfl⟩ ?_
  refine x_if_eq (tgt := 16) d_Str_charAt_4 rfl (by omega) (fun c => ?_) (fun c => ?_)
  · omega
  refine x_aload_n d_Str_charAt_7 0 rfl rfl ?_
  refine x_get3 k 0 (k + 1) fl_Str_9 tk_22_0 h.1 rfl rfl d_Str_charAt_8 ?_
  refine x_iload_n d_Str_charAt_11 1 rfl rfl ?_
  refine x_csi (As := [.ref (σ (k + 1)).1, vi i]) (c_L1_charAt (k + 1) i n h.2.1 h.2.2.2 hi hc) cs_Str_495 rfl rfl (lr rfl) d_Str_charAt_12 (lr rfl) ⟨lr rfl, lr rfl⟩ ?_
  exact x_zret d_Str_charAt_15 rfl (narc (by omega)) (lr rfl) (lr rfl) ⟨rfl, rfl, rfl⟩
