/-! StringBuilder: append, <init>, setLength; copyOfRange -/
theorem c_SB_append {σ : xS} {R : xR} (k n c : Int) (h : sbI σ R k n) (hn : n ≤ 9) (hc : 0 ≤ c ∧ c ≤ 126) : Ct m_SB_append 3 0 0 [.ref (σ k).1, vi c] σ R (fun o σ' R' => o = .returned (some (.ref (σ k).1)) ∧ σ' = σ ∧ R' = xup (xup R k 3 (n + 1)) (k + 1) n c) := by
  refine Ct.of [some (.ref (σ k).1), some (vi c)] rfl (by decide +kernel) (lr rfl) (fun X => ?_)
  refine x_aload_n d_SB_append_0 0 rfl rfl ?_
  refine x_iload_n d_SB_append_1 1 rfl rfl ?_
  refine x_callSU (As := [vi c]) (ci := 4) (C := R_SB) (c_ASB_append k n c h hn hc) mk_ASB_append (xin 188 (by decide +kernel) (by decide +kernel)) (xin 1077 (by decide +kernel) (by decide +kernel)) w_supSB (xin 189 (by decide +kernel) (by decide +kernel)) (by decide) k h.1 rfl (by decide) rfl rfl rfl (lr rfl) d_SB_append_2 (lr rfl) ⟨lr rfl, lr rfl⟩ (fun r σ' R' hZ => ?_)
  obtain ⟨h1, h2, h3⟩ := hZ
  cases h1
  subst h2
  refine x_pop d_SB_append_5 rfl ?_
  refine x_aload_n d_SB_append_6 0 rfl rfl ?_
  exact x_aret d_SB_append_7 rfl (Or.inl ⟨_, rfl⟩) (Or.inr ⟨_, rfl⟩) (lr rfl) (lr rfl) ⟨rfl, rfl, h3⟩
/-- a builder is made: its bytes at k + 1 -/
def sbN (σ : xS) (R : xR) (k : Int) (σ' : xS) (R' : xR) : Prop := (∃ q, σ' = xsu (xsu σ (k + 1) (q, 35, 16)) k ((σ k).1, 21, 0)) ∧ R' k 1 = 0 ∧ R' k 3 = R k 3 ∧ (∀ i, R' (k + 1) i = 0) ∧ ∀ a, a ≠ k → a ≠ k + 1 → R' a = R a
theorem c_ASB_init {σ : xS} {R : xR} (k : Int) (hk : (σ k).2 = (5, 0)) (h9 : k < 90 ∨ 99 < k) (h91 : k + 1 < 90 ∨ 99 < k + 1) (hf : (σ (k + 1)).2.1 = 0) : Ct m_ASB_init 1 1 16 [.ref (σ k).1, vi 16] σ R (fun o σ' R' => o = .returned none ∧ sbN σ R k σ' R') := by
  refine Ct.of [some (.ref (σ k).1), some (vi 16)] rfl (by decide +kernel) (lr rfl) (fun X => ?_)
  have hkk : k ≠ k + 1 := by omega
  refine x_aload_n d_ASB_init_0 0 rfl rfl ?_
  refine x_objInit oi_ASB oi_in oi_co (lr rfl) d_ASB_init_1 (lr rfl) ?_
  refine x_getsC w_cs18 d_ASB_init_4 ?_
  refine x_if_eq (tgt := 25) d_ASB_init_7 rfl (by omega) (fun c => ?_) (fun c => ?_)
  · omega
  refine x_aload_n d_ASB_init_10 0 rfl rfl ?_
  refine x_iload_n d_ASB_init_11 1 rfl rfl ?_
  refine x_newa (k + 1) 35 (N := 16) h91 hf na_35 ac_byte rfl (lr rfl) d_ASB_init_12 ⟨lr rfl, lr rfl⟩ (fun q => ?_)
  refine x_putr k 0 0 ((q : Int) + 1) fp_ASB_15 tk_5_0 (by rw [xsu_ne _ _ hkk]; exact hk) (by rw [xsu_ne _ _ hkk]) rfl rfl ⟨rfl, rfl⟩ d_ASB_init_14 (fun R1 hR1 => ?_)
  refine x_aload_n d_ASB_init_17 0 rfl rfl ?_
  refine x_iconst d_ASB_init_18 ?_
  refine x_putn k 1 1 fp_ASB_22 tk_5_1 (by rw [xsu_ne _ _ hkk]; exact hk) (by rw [xsu_ne _ _ hkk]) rfl ⟨rfl, rfl⟩ d_ASB_init_19 (fun R2 hR2 => ?_)
  refine x_goto (tgt := 38) d_ASB_init_22 rfl ?_
  refine V.made k 21 (C := R_SB) (T := F_SB) (N := 4) (a := (σ k).1) (t := 5) (n := 0) h9 (by rw [xsu_ne _ _ hkk]; exact Prod.ext rfl hk) (by decide) (by decide) rfl (fun j hj => ?_) (fun j hj c hc => ?_) ?_
  · rcases (show j = 0 ∨ j = 1 ∨ j = 2 ∨ j = 3 by omega) with rfl | rfl | rfl | rfl
    · show rz (R2 k 0) = Value.ref (xsu σ (k + 1) (q, 35, 16) (k + 1)).1
      rw [xr_d hR2 (by decide), xr_s hR1, xsu_self]
      rfl
    · rfl
    · rfl
    · rfl
  · rcases (show j = 0 ∨ j = 1 ∨ j = 2 ∨ j = 3 by omega) with rfl | rfl | rfl | rfl
    · have e : k + 1 = c := Option.some.inj hc
      rw [← e, xsu_self]
      show (35 : Nat) ≠ 0
      decide
    · cases hc
    · cases hc
    · cases hc
  · refine x_vret d_ASB_init_38 rfl (lr rfl) (lr rfl) ⟨rfl, ⟨q, rfl⟩, xr_s hR2, ?_, fun i => ?_, fun a a1 a2 => ?_⟩
    · rw [xr_d hR2 (by decide), xr_d hR1 (by decide), xru_ne _ _ hkk]
    · rw [xr_o hR2 (fun e => hkk e.symm), xr_o hR1 (fun e => hkk e.symm), xru_self]
    · funext i
      rw [xr_o hR2 a1, xr_o hR1 a1, xru_ne _ _ a2]
theorem c_SB_init {σ : xS} {R : xR} (k : Int) (hk : (σ k).2 = (5, 0)) (h9 : k < 90 ∨ 99 < k) (h91 : k + 1 < 90 ∨ 99 < k + 1) (hf : (σ (k + 1)).2.1 = 0) : Ct m_SB_init 2 1 16 [.ref (σ k).1] σ R (fun o σ' R' => o = .returned none ∧ sbN σ R k σ' R') := by
  refine Ct.of [some (.ref (σ k).1)] rfl (by decide +kernel) (lr rfl) (fun X => ?_)
  refine x_aload_n d_SB_init_0 0 rfl rfl ?_
  refine x_bipush d_SB_init_1 rfl ?_
  refine x_ci (As := [vi 16]) (c_ASB_init k hk h9 h91 hf) cs_SB_1 rfl rfl (lr rfl) d_SB_init_3 (lr rfl) ⟨lr rfl, lr rfl⟩ (fun r σ' R' hZ => ?_)
  obtain ⟨h1, h2⟩ := hZ
  cases h1
  exact x_vret d_SB_init_6 rfl (lr rfl) (lr rfl) ⟨rfl, h2⟩
theorem c_ASB_getValue {σ : xS} {R : xR} (k n : Int) (h : sbI σ R k n) : Ct m_ASB_getValue 1 0 0 [.ref (σ k).1] σ R (Za σ R (.ref (σ (k + 1)).1)) := by
  refine Ct.of [some (.ref (σ k).1)] rfl (by decide +kernel) (lr rfl) (fun X => ?_)
  refine x_aload_n d_ASB_getValue_0 0 rfl rfl ?_
  refine x_get3 k 0 (k + 1) fl_ASB_15 tk_21_0 h.1 rfl rfl d_ASB_getValue_1 ?_
  exact x_aret d_ASB_getValue_4 rfl (Or.inr ⟨_, rfl⟩) (Or.inr ⟨_, rfl⟩) (lr rfl) (lr rfl) ⟨rfl, rfl, rfl⟩
def m_Arr_checkLength : xM := (⟨"java/util/Arrays", "checkLength", "(II)V"⟩, prog_26_method_131_code, 2, none)
theorem mk_Arr_checkLength : xMk m_Arr_checkLength 2 := ⟨xin 344 (by decide +kernel) (by decide +kernel), by decide +kernel, xin 12 (by decide +kernel) (by decide +kernel), by decide⟩
theorem cs_Arr_343 : xCs "java/util/Arrays" 343 m_Arr_checkLength 2 := ⟨mk_Arr_checkLength, xin 342 (by decide +kernel) (by decide +kernel), xin 343 (by decide +kernel) (by decide +kernel)⟩
theorem d_Arr_checkLength_0 : decode m_Arr_checkLength.2.1 0 = .ok (.iload_n 1, 1) := by decide +kernel
theorem d_Arr_checkLength_1 : decode m_Arr_checkLength.2.1 1 = .ok (.iload_n 0, 1) := by decide +kernel
theorem d_Arr_checkLength_2 : decode m_Arr_checkLength.2.1 2 = .ok (.if_icmp .ge 35, 3) := by decide +kernel
theorem d_Arr_checkLength_37 : decode m_Arr_checkLength.2.1 37 = .ok (.return_, 1) := by decide +kernel
theorem c_Arr_checkLength {σ : xS} {R : xR} (a b : Int) (ha : 0 ≤ a ∧ a ≤ b) (hb : b ≤ 1000) : Ct m_Arr_checkLength 1 0 0 [vi a, vi b] σ R (Zv σ (fun R' => R' = R)) := by
  refine Ct.of [some (vi a), some (vi b)] rfl (by decide +kernel) (lr rfl) (fun X => ?_)
  refine x_iload_n d_Arr_checkLength_0 1 rfl rfl ?_
  refine x_iload_n d_Arr_checkLength_1 0 rfl rfl ?_
  refine x_icmp_ge (tgt := 37) d_Arr_checkLength_2 rfl (by omega) (by omega) (fun c => ?_) (fun c => ?_)
  · exact x_vret d_Arr_checkLength_37 rfl (lr rfl) (lr rfl) ⟨rfl, rfl, rfl⟩
  · omega
/-- a new byte array at region f: the first n places of region e's -/
def cbZ (σ : xS) (R : xR) (e f : Int) (n : Nat) : xZ := fun o σ' R' => ∃ q : Nat, o = .returned (some (.ref q)) ∧ σ' = xsu σ f (q, 35, n) ∧ (∀ i, 0 ≤ i → i < (n : Int) → R' f i = R e i) ∧ ∀ a, a ≠ f → R' a = R a
theorem fitb {a : Int} (h : -128 ≤ a ∧ a < 128) : fits .byte (vi a) = true := by
  show (decide (-128 ≤ iI a) && decide (iI a ≤ 127)) = true
  rw [show (-128 : Int32) = iI (-128) by decide, show (127 : Int32) = iI 127 by decide, Bool.and_eq_true, decide_eq_true_eq, decide_eq_true_eq, iI_le (by omega) (by omega), iI_le (by omega) (by omega)]
  omega
theorem c_Arr_copyOfRangeByte {σ : xS} {R : xR} (e f : Int) (n0 n : Nat) (he : (σ e).2 = (35, n0)) (hf9 : f < 90 ∨ 99 < f) (hf : (σ f).2.1 = 0) (hn : n ≤ n0 ∧ n0 ≤ 16) (hel : ∀ i, 0 ≤ i → i < (n : Int) → -128 ≤ R e i ∧ R e i < 128) : Ct m_Arr_copyOfRangeByte 2 1 16 [.ref (σ e).1, vi 0, vi (n : Int)] σ R (cbZ σ R e f n) := by
  refine Ct.of [some (.ref (σ e).1), some (vi 0), some (vi (n : Int)), none, none] rfl (by decide +kernel) (lr rfl) (fun X => ?_)
  have hef : e ≠ f := fun q => by rw [q] at he; rw [he] at hf; cases hf
  refine x_iload_n d_Arr_copyOfRangeByte_0 1 rfl rfl ?_
  refine x_iload_n d_Arr_copyOfRangeByte_1 2 rfl rfl ?_
  refine x_csv (As := [vi 0, vi (n : Int)]) (c_Arr_checkLength 0 (n : Int) (by omega) (by omega)) cs_Arr_343 rfl rfl (lr rfl) d_Arr_copyOfRangeByte_2 (lr rfl) ⟨lr rfl, lr rfl⟩ (fun R1 hR1 => ?_)
  rw [hR1]
  refine x_iload_n d_Arr_copyOfRangeByte_5 2 rfl rfl ?_
  refine x_iload_n d_Arr_copyOfRangeByte_6 1 rfl rfl ?_
  refine x_isub d_Arr_copyOfRangeByte_7 ?_
  refine V.teq (n : Int) (by omega) ?_
  refine x_istore_n d_Arr_copyOfRangeByte_8 3 rfl [some (.ref (σ e).1), some (vi 0), some (vi (n : Int)), some (vi (n : Int)), none] rfl rfl (lr rfl) ?_
  refine x_iload_n d_Arr_copyOfRangeByte_9 3 rfl rfl ?_
  refine x_newa f 35 (N := n) hf9 hf na_35 ac_byte rfl (by omega) d_Arr_copyOfRangeByte_10 ⟨lr rfl, by show 0 + n ≤ 16; omega⟩ (fun q => ?_)
  refine x_astore d_Arr_copyOfRangeByte_12 [some (.ref (σ e).1), some (vi 0), some (vi (n : Int)), some (vi (n : Int)), some (.ref q)] rfl rfl (lr rfl) ?_
  refine x_aload_n d_Arr_copyOfRangeByte_14 0 rfl rfl ?_
  refine x_iload_n d_Arr_copyOfRangeByte_15 1 rfl rfl ?_
  refine x_aload d_Arr_copyOfRangeByte_16 rfl ?_
  refine x_iconst d_Arr_copyOfRangeByte_18 ?_
  refine x_aload_n d_Arr_copyOfRangeByte_19 0 rfl rfl ?_
  have he' : (xsu σ f (q, 35, n) e).2 = (35, n0) := by rw [xsu_ne _ _ hef]; exact he
  have ha' : (xsu σ f (q, 35, n) e).1 = (σ e).1 := by rw [xsu_ne _ _ hef]
  refine x_len e he' ha' (by decide) d_Arr_copyOfRangeByte_20 ?_
  refine x_iload_n d_Arr_copyOfRangeByte_21 1 rfl rfl ?_
  refine x_isub d_Arr_copyOfRangeByte_22 ?_
  refine x_iload_n d_Arr_copyOfRangeByte_23 3 rfl rfl ?_
  refine x_min (n : Int) w_mnAr (by omega) (by omega) (by by_cases hh : (n : Int) < (n0 : Int) - 0; (rw [if_pos hh]); (rw [if_neg hh]; omega)) (lr rfl) ⟨lr rfl, by show 0 + n ≤ 16; omega⟩ (lr rfl) d_Arr_copyOfRangeByte_24 ?_
  have hRe : xru R f (fun _ => 0) e = R e := xru_ne _ _ hef
  refine x_copyB e f (n0 := n0) (n1 := n) he' ha' (by rw [xsu_self]) (by rw [xsu_self]) (by omega) (by omega) (fun i i1 i2 => ?_) w_acA (lr rfl) (lr rfl) d_Arr_copyOfRangeByte_27 (fun R1 hR1 => ?_)
  · rw [hRe]
    exact fitb (hel i i1 i2)
  refine x_aload d_Arr_copyOfRangeByte_30 rfl ?_
  refine x_aret d_Arr_copyOfRangeByte_32 rfl (Or.inr ⟨_, rfl⟩) (Or.inr ⟨_, rfl⟩) (lr rfl) (by show 0 + n ≤ 16; omega) ⟨q, rfl, rfl, fun i i1 i2 => ?_, fun a ha => ?_⟩
  · rw [hR1, xru_self, if_pos ⟨i1, i2⟩, hRe]
  · rw [hR1, xru_ne _ _ ha, xru_ne _ _ ha]
theorem c_Arr_copyOfRange {σ : xS} {R : xR} (e f : Int) (n0 n : Nat) (he : (σ e).2 = (35, n0)) (hf9 : f < 90 ∨ 99 < f) (hf : (σ f).2.1 = 0) (hn : n < n0 ∧ n0 ≤ 16) (hel : ∀ i, 0 ≤ i → i < (n : Int) → -128 ≤ R e i ∧ R e i < 128) : Ct m_Arr_copyOfRange 3 1 16 [.ref (σ e).1, vi 0, vi (n : Int)] σ R (cbZ σ R e f n) := by
  refine Ct.of [some (.ref (σ e).1), some (vi 0), some (vi (n : Int))] rfl (by decide +kernel) (lr rfl) (fun X => ?_)
  refine x_iload_n d_Arr_copyOfRange_0 1 rfl rfl ?_
  refine x_if_ne (tgt := 10) d_Arr_copyOfRange_1 rfl (by omega) (fun c => ?_) (fun c => ?_)
  · omega
  refine x_iload_n d_Arr_copyOfRange_4 2 rfl rfl ?_
  refine x_aload_n d_Arr_copyOfRange_5 0 rfl rfl ?_
  refine x_len e he rfl (by decide) d_Arr_copyOfRange_6 ?_
  refine x_icmp_eq (tgt := 17) d_Arr_copyOfRange_7 rfl (by omega) (by omega) (fun c => ?_) (fun c => ?_)
  · omega
  refine x_aload_n d_Arr_copyOfRange_10 0 rfl rfl ?_
  refine x_iload_n d_Arr_copyOfRange_11 1 rfl rfl ?_
  refine x_iload_n d_Arr_copyOfRange_12 2 rfl rfl ?_
  refine x_cs (As := [.ref (σ e).1, vi 0, vi (n : Int)]) (c_Arr_copyOfRangeByte e f n0 n he hf9 hf (by omega) hel) cs_Arr_339 rfl rfl (lr rfl) d_Arr_copyOfRange_13 (lr rfl) ⟨lr rfl, lr rfl⟩ (fun r σ' R' hZ => ?_)
  obtain ⟨q, h1, h2⟩ := hZ
  cases h1
  exact x_aret d_Arr_copyOfRange_16 rfl (Or.inr ⟨_, rfl⟩) (Or.inr ⟨_, rfl⟩) (lr rfl) (lr rfl) ⟨q, rfl, h2⟩
theorem c_ASB_setLength {σ : xS} {R : xR} (k n : Int) (h : sbI σ R k n) : Ct m_ASB_setLength 2 0 0 [.ref (σ k).1, vi 0] σ R (Zv σ (fun R' => R' k 1 = 0 ∧ R' k 3 = 0 ∧ ∀ a, a ≠ k → R' a = R a)) := by
  refine Ct.of [some (.ref (σ k).1), some (vi 0)] rfl (by decide +kernel) (lr rfl) (fun X => ?_)
  have hn := h.2.2.2.2
  refine x_iload_n d_ASB_setLength_0 1 rfl rfl ?_
  refine x_if_ge (tgt := 13) d_ASB_setLength_1 rfl (by omega) (fun c => ?_) (fun c => ?_)
  rotate_left
  · omega
  refine x_aload_n d_ASB_setLength_13 0 rfl rfl ?_
  refine x_iload_n d_ASB_setLength_14 1 rfl rfl ?_
  refine x_callP nIsL (As := [vi 0]) (ci := 4) (C := R_SB) (C0 := "java/lang/StringBuilder") (c_ASB_ensure k n 0 h (by omega)) mk_ASB_ensureCapacityInternal (xin 191 (by decide +kernel) (by decide +kernel)) w_ensI rfl w_islS 192 (by decide +kernel) k h.1 rfl (by decide) rfl rfl rfl (lr rfl) d_ASB_setLength_15 (lr rfl) ⟨lr rfl, lr rfl⟩ (fun r σ' R' hZ => ?_)
  obtain ⟨h1, h2, h3⟩ := hZ
  cases h1
  subst h2
  subst h3
  refine x_aload_n d_ASB_setLength_18 0 rfl rfl ?_
  refine x_geti k 3 3 n fl_ASB_79 tk_21_3 h.1 rfl rfl h.2.2.2.1 d_ASB_setLength_19 ?_
  refine x_iload_n d_ASB_setLength_22 1 rfl rfl ?_
  refine x_icmp_ge (tgt := 63) d_ASB_setLength_23 rfl (by omega) (by omega) (fun c => ?_) (fun c => ?_)
  rotate_left
  · omega
  refine x_aload_n d_ASB_setLength_63 0 rfl rfl ?_
  refine x_geti k 3 3 n fl_ASB_79 tk_21_3 h.1 rfl rfl h.2.2.2.1 d_ASB_setLength_64 ?_
  refine x_iload_n d_ASB_setLength_67 1 rfl rfl ?_
  refine x_icmp_le (tgt := 76) d_ASB_setLength_68 rfl (by omega) (by omega) (fun c => ?_) (fun c => ?_)
  · refine x_aload_n d_ASB_setLength_76 0 rfl rfl ?_
    refine x_iload_n d_ASB_setLength_77 1 rfl rfl ?_
    refine x_puti k 3 3 fp_ASB_79 tk_21_3 h.1 rfl rfl d_ASB_setLength_78 (fun R1 hR1 => ?_)
    exact x_vret d_ASB_setLength_81 rfl (lr rfl) (lr rfl) ⟨rfl, rfl, by rw [xr_d hR1 (by decide)]; exact h.2.2.1, xr_s hR1, fun a a1 => by funext i; exact xr_o hR1 a1⟩
  · refine x_aload_n d_ASB_setLength_71 0 rfl rfl ?_
    refine x_iconst d_ASB_setLength_72 ?_
    refine x_putn k 2 2 fp_ASB_73 tk_21_2 h.1 rfl rfl ⟨rfl, rfl⟩ d_ASB_setLength_73 (fun R1 hR1 => ?_)
    refine x_aload_n d_ASB_setLength_76 0 rfl rfl ?_
    refine x_iload_n d_ASB_setLength_77 1 rfl rfl ?_
    refine x_puti k 3 3 fp_ASB_79 tk_21_3 h.1 rfl rfl d_ASB_setLength_78 (fun R2 hR2 => ?_)
    exact x_vret d_ASB_setLength_81 rfl (lr rfl) (lr rfl) ⟨rfl, rfl, by rw [xr_d hR2 (by decide), xr_d hR1 (by decide)]; exact h.2.2.1, xr_s hR2, fun a a1 => by funext i; rw [xr_o hR2 a1, xr_o hR1 a1]⟩
theorem c_SB_setLength {σ : xS} {R : xR} (k n : Int) (h : sbI σ R k n) : Ct m_SB_setLength 3 0 0 [.ref (σ k).1, vi 0] σ R (Zv σ (fun R' => R' k 1 = 0 ∧ R' k 3 = 0 ∧ ∀ a, a ≠ k → R' a = R a)) := by
  refine Ct.of [some (.ref (σ k).1), some (vi 0)] rfl (by decide +kernel) (lr rfl) (fun X => ?_)
  refine x_aload_n d_SB_setLength_0 0 rfl rfl ?_
  refine x_iload_n d_SB_setLength_1 1 rfl rfl ?_
  refine x_callSU (As := [vi 0]) (ci := 4) (C := R_SB) (c_ASB_setLength k n h) mk_ASB_setLength (xin 516 (by decide +kernel) (by decide +kernel)) (xin 1088 (by decide +kernel) (by decide +kernel)) w_supSB (xin 517 (by decide +kernel) (by decide +kernel)) (by decide) k h.1 rfl (by decide) rfl rfl rfl (lr rfl) d_SB_setLength_2 (lr rfl) ⟨lr rfl, lr rfl⟩ (fun r σ' R' hZ => ?_)
  obtain ⟨h1, h2, h3⟩ := hZ
  cases h1
  subst h2
  exact x_vret d_SB_setLength_5 rfl (lr rfl) (lr rfl) ⟨rfl, rfl, h3⟩
