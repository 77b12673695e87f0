/-! the desk: its regions; small methods (walks printed by gen/desk1.py) -/
def dshape : List (Int × Nat × Nat) := [(1, 17, 0), (5, 42, 2), (6, 32, 6), (7, 32, 6), (8, 32, 16), (12, 33, 6), (13, 33, 6), (14, 32, 6), (15, 43, 40), (16, 32, 1000), (17, 32, 30), (18, 32, 6), (19, 44, 41), (20, 32, 41), (21, 32, 41)]
def dSh (σ : xS) : Prop := xsh σ dshape ∧ (∀ j, 0 ≤ j → j < 40 → (σ (400 + j)).2 = (36, 13)) ∧ ∀ j, 0 ≤ j → j < 41 → (σ (450 + j)).2 = (35, 6)
theorem thisD {σ : xS} (hD : dSh σ) : xRc σ 1 (σ 1).1 "RepairDesk" := ⟨rfl, 17, 0, 0, F_Desk, 23, hD.1.at 0 rfl, by decide, rfl⟩
theorem row44 {σ : xS} {k z : Int} (h : 0 ≤ k) : xV σ 19 (xkd 44 k.toNat) z = .ref (σ (450 + k)).1 := by
  show xV σ 19 (454 + k.toNat) z = _
  rw [show 454 + k.toNat = (450 + k.toNat) + 4 by omega]
  show Value.ref (σ ((450 + k.toNat : Nat) : Int)).1 = _
  rw [show ((450 + k.toNat : Nat) : Int) = 450 + k by omega]
theorem row43 {σ : xS} {k z : Int} (h : 0 ≤ k) : xV σ 15 (xkd 43 k.toNat) z = .ref (σ (400 + k)).1 := by
  show xV σ 15 (404 + k.toNat) z = _
  rw [show 404 + k.toNat = (400 + k.toNat) + 4 by omega]
  show Value.ref (σ ((400 + k.toNat : Nat) : Int)).1 = _
  rw [show ((400 + k.toNat : Nat) : Int) = 400 + k by omega]
set_option maxHeartbeats 4000000 in
theorem c_D_isLetter {σ : xS} {R : xR} (c : Int) (hc : 0 ≤ c ∧ c < 65536) : Ct m_D_isLetter 1 0 0 [vi c] σ R (Zi σ R (zb (97 ≤ c ∧ c ≤ 102))) := by
  refine Ct.of [some (vi c)] rfl (by decide +kernel) (lr rfl) (fun X => ?_)
  refine x_iload_n d_D_isLetter_0 0 rfl rfl ?_
  refine x_bipush d_D_isLetter_1 rfl ?_
  refine x_icmp_lt (tgt := 16) d_D_isLetter_3 rfl (by omega) (by omega) (fun c3 => ?_) (fun c3 => ?_)
  · refine x_iconst d_D_isLetter_16 ?_
    exact x_zret d_D_isLetter_17 rfl (narz (by omega)) (lr rfl) (lr rfl) (⟨by rw [zb_f (by omega)], rfl, rfl⟩)
  · refine x_iload_n d_D_isLetter_6 0 rfl rfl ?_
    refine x_bipush d_D_isLetter_7 rfl ?_
    refine x_icmp_gt (tgt := 16) d_D_isLetter_9 rfl (by omega) (by omega) (fun c9 => ?_) (fun c9 => ?_)
    · refine x_iconst d_D_isLetter_16 ?_
      exact x_zret d_D_isLetter_17 rfl (narz (by omega)) (lr rfl) (lr rfl) (⟨by rw [zb_f (by omega)], rfl, rfl⟩)
    · refine x_iconst d_D_isLetter_12 ?_
      refine x_goto (tgt := 17) d_D_isLetter_13 rfl ?_
      exact x_zret d_D_isLetter_17 rfl (narz (by omega)) (lr rfl) (lr rfl) (⟨by rw [zb_t (by omega)], rfl, rfl⟩)
set_option maxHeartbeats 4000000 in
theorem c_D_isName {σ : xS} {R : xR} (c : Int) (hc : 0 ≤ c ∧ c < 65536) : Ct m_D_isName 1 0 0 [vi c] σ R (Zi σ R (zb (65 ≤ c ∧ c ≤ 70))) := by
  refine Ct.of [some (vi c)] rfl (by decide +kernel) (lr rfl) (fun X => ?_)
  refine x_iload_n d_D_isName_0 0 rfl rfl ?_
  refine x_bipush d_D_isName_1 rfl ?_
  refine x_icmp_lt (tgt := 16) d_D_isName_3 rfl (by omega) (by omega) (fun c3 => ?_) (fun c3 => ?_)
  · refine x_iconst d_D_isName_16 ?_
    exact x_zret d_D_isName_17 rfl (narz (by omega)) (lr rfl) (lr rfl) (⟨by rw [zb_f (by omega)], rfl, rfl⟩)
  · refine x_iload_n d_D_isName_6 0 rfl rfl ?_
    refine x_bipush d_D_isName_7 rfl ?_
    refine x_icmp_gt (tgt := 16) d_D_isName_9 rfl (by omega) (by omega) (fun c9 => ?_) (fun c9 => ?_)
    · refine x_iconst d_D_isName_16 ?_
      exact x_zret d_D_isName_17 rfl (narz (by omega)) (lr rfl) (lr rfl) (⟨by rw [zb_f (by omega)], rfl, rfl⟩)
    · refine x_iconst d_D_isName_12 ?_
      refine x_goto (tgt := 17) d_D_isName_13 rfl ?_
      exact x_zret d_D_isName_17 rfl (narz (by omega)) (lr rfl) (lr rfl) (⟨by rw [zb_t (by omega)], rfl, rfl⟩)
set_option maxHeartbeats 4000000 in
set_option maxRecDepth 100000 in
theorem c_D_forget {σ : xS} {R : xR} (hD : dSh σ)  : Ct m_D_forget 1 0 0 [.ref (σ 1).1] σ R (Zv σ (fun R1 => R1 = xup (xup R 1 21 0) 1 22 0)) := by
  refine Ct.of [some (.ref ((σ 1).1))] rfl (by decide +kernel) (lr rfl) (fun X => ?_)
  refine x_aload_n d_D_forget_0 0 rfl rfl ?_
  refine x_iconst d_D_forget_1 ?_
  refine x_puti 1 21 21 fp_D_95 tk_17_21 (hD.1.at 0 rfl) rfl rfl d_D_forget_2 (fun Q1 hQ1 => ?_)
  refine x_aload_n d_D_forget_5 0 rfl rfl ?_
  refine x_iconst d_D_forget_6 ?_
  refine x_puti 1 22 22 fp_D_99 tk_17_22 (hD.1.at 0 rfl) rfl rfl d_D_forget_7 (fun Q2 hQ2 => ?_)
  exact x_vret d_D_forget_10 rfl (lr rfl) (lr rfl) (⟨rfl, rfl, by rw [hQ2, hQ1]⟩)
set_option maxHeartbeats 4000000 in
set_option maxRecDepth 100000 in
theorem c_D_price {σ : xS} {R : xR} (hD : dSh σ)  : Ct m_D_price 1 0 0 [.ref (σ 1).1] σ R (Zi σ R (R 1 22)) := by
  refine Ct.of [some (.ref ((σ 1).1))] rfl (by decide +kernel) (lr rfl) (fun X => ?_)
  refine x_aload_n d_D_price_0 0 rfl rfl ?_
  refine x_geti 1 22 22 (R 1 22) fl_D_99 tk_17_22 (hD.1.at 0 rfl) rfl rfl rfl d_D_price_1 ?_
  exact x_iret d_D_price_4 rfl (lr rfl) (lr rfl) (⟨rfl, rfl, rfl⟩)
set_option maxHeartbeats 4000000 in
set_option maxRecDepth 100000 in
theorem c_D_letter {σ : xS} {R : xR} (hD : dSh σ) (k : Int) (hk : -2147483648 ≤ k ∧ k < 2147483648) (hf : 0 ≤ R 1 5 ∧ R 1 5 ≤ 16) : Ct m_D_letter 1 0 0 [.ref (σ 1).1, vi k] σ R (Zi σ R (if k < 0 ∨ R 1 5 ≤ k then -1 else R 8 k)) := by
  refine Ct.of [some (.ref ((σ 1).1)), some (vi k)] rfl (by decide +kernel) (lr rfl) (fun X => ?_)
  refine x_iload_n d_D_letter_0 1 rfl rfl ?_
  refine x_if_lt (tgt := 12) d_D_letter_1 rfl (by omega) (fun c1 => ?_) (fun c1 => ?_)
  · refine x_iconst d_D_letter_12 ?_
    refine x_goto (tgt := 22) d_D_letter_13 rfl ?_
    exact x_iret d_D_letter_22 rfl (lr rfl) (lr rfl) (⟨by rw [if_pos (by omega)], rfl, rfl⟩)
  · refine x_iload_n d_D_letter_4 1 rfl rfl ?_
    refine x_aload_n d_D_letter_5 0 rfl rfl ?_
    refine x_geti 1 5 5 (R 1 5) fl_D_236 tk_17_5 (hD.1.at 0 rfl) rfl rfl rfl d_D_letter_6 ?_
    refine x_icmp_lt (tgt := 16) d_D_letter_9 rfl (by omega) (by omega) (fun c9 => ?_) (fun c9 => ?_)
    · refine x_aload_n d_D_letter_16 0 rfl rfl ?_
      refine x_getc 1 4 8 8 fl_D_32 tk_17_4 (hD.1.at 0 rfl) rfl rfl d_D_letter_17 ?_
      refine x_iload_n d_D_letter_20 1 rfl rfl ?_
      refine x_iald 8 (R 8 k) (hD.1.at 4 rfl) rfl ⟨by decide, rfl, by decide⟩ rfl (by omega) rfl d_D_letter_21 ?_
      exact x_iret d_D_letter_22 rfl (lr rfl) (lr rfl) (⟨by rw [if_neg (by omega)], rfl, rfl⟩)
    · refine x_iconst d_D_letter_12 ?_
      refine x_goto (tgt := 22) d_D_letter_13 rfl ?_
      exact x_iret d_D_letter_22 rfl (lr rfl) (lr rfl) (⟨by rw [if_pos (by omega)], rfl, rfl⟩)
set_option maxHeartbeats 4000000 in
set_option maxRecDepth 100000 in
theorem c_D_cost {σ : xS} {R : xR} (hD : dSh σ) (l out c : Int) (hl : -2147483648 ≤ l ∧ l < 2147483648) (ho : out = 0 ∨ out = 1) (hc : -2147483648 ≤ c ∧ c < 2147483648) : Ct m_D_cost 1 0 0 [.ref (σ 1).1, vi l, vi out, vi c] σ R (Zm σ (fun z R1 => ((l < 0 ∨ 5 < l ∨ c < 1 ∨ 3 < c) ∧ z = 0 ∧ R1 = R) ∨ (¬ (l < 0 ∨ 5 < l ∨ c < 1 ∨ 3 < c) ∧ z = 1 ∧ R1 = xup R (if out = 0 then 6 else 7) l c))) := by
  refine Ct.of [some (.ref ((σ 1).1)), some (vi l), some (vi out), some (vi c)] rfl (by decide +kernel) (lr rfl) (fun X => ?_)
  refine x_iload_n d_D_cost_0 1 rfl rfl ?_
  refine x_if_lt (tgt := 20) d_D_cost_1 rfl (by omega) (fun c1 => ?_) (fun c1 => ?_)
  · refine x_iconst d_D_cost_20 ?_
    exact x_zret d_D_cost_21 rfl (narz (by omega)) (lr rfl) (lr rfl) (⟨_, rfl, rfl, Or.inl ⟨by omega, rfl, rfl⟩⟩)
  · refine x_iload_n d_D_cost_4 1 rfl rfl ?_
    refine x_bipush d_D_cost_5 rfl ?_
    refine x_icmp_ge (tgt := 20) d_D_cost_7 rfl (by omega) (by omega) (fun c7 => ?_) (fun c7 => ?_)
    · refine x_iconst d_D_cost_20 ?_
      exact x_zret d_D_cost_21 rfl (narz (by omega)) (lr rfl) (lr rfl) (⟨_, rfl, rfl, Or.inl ⟨by omega, rfl, rfl⟩⟩)
    · refine x_iload_n d_D_cost_10 3 rfl rfl ?_
      refine x_iconst d_D_cost_11 ?_
      refine x_icmp_lt (tgt := 20) d_D_cost_12 rfl (by omega) (by omega) (fun c12 => ?_) (fun c12 => ?_)
      · refine x_iconst d_D_cost_20 ?_
        exact x_zret d_D_cost_21 rfl (narz (by omega)) (lr rfl) (lr rfl) (⟨_, rfl, rfl, Or.inl ⟨by omega, rfl, rfl⟩⟩)
      · refine x_iload_n d_D_cost_15 3 rfl rfl ?_
        refine x_iconst d_D_cost_16 ?_
        refine x_icmp_le (tgt := 22) d_D_cost_17 rfl (by omega) (by omega) (fun c17 => ?_) (fun c17 => ?_)
        · refine x_aload_n d_D_cost_22 0 rfl rfl ?_
          refine x_getc 1 3 5 5 fl_D_28 tk_17_3 (hD.1.at 0 rfl) rfl rfl d_D_cost_23 ?_
          refine x_iload_n d_D_cost_26 2 rfl rfl ?_
          refine x_if_eq (tgt := 34) d_D_cost_27 rfl (by omega) (fun c27 => ?_) (fun c27 => ?_)
          · refine x_iconst d_D_cost_34 ?_
            refine x_aald 5 (v := .ref ((σ 6).1)) (hD.1.at 1 rfl) rfl ⟨by decide, rfl, by decide⟩ (by omega) rfl d_D_cost_35 ?_
            refine x_iload_n d_D_cost_36 1 rfl rfl ?_
            refine x_iload_n d_D_cost_37 3 rfl rfl ?_
            refine x_iast 6 (hD.1.at 2 rfl) rfl ⟨by decide, rfl, by decide⟩ rfl (by omega) d_D_cost_38 (fun Q1 hQ1 => ?_)
            refine x_iconst d_D_cost_39 ?_
            exact x_zret d_D_cost_40 rfl (narz (by omega)) (lr rfl) (lr rfl) (⟨_, rfl, rfl, Or.inr ⟨by omega, rfl, by rw [if_pos (by omega)]; exact hQ1⟩⟩)
          · refine x_iconst d_D_cost_30 ?_
            refine x_goto (tgt := 35) d_D_cost_31 rfl ?_
            refine x_aald 5 (v := .ref ((σ 7).1)) (hD.1.at 1 rfl) rfl ⟨by decide, rfl, by decide⟩ (by omega) rfl d_D_cost_35 ?_
            refine x_iload_n d_D_cost_36 1 rfl rfl ?_
            refine x_iload_n d_D_cost_37 3 rfl rfl ?_
            refine x_iast 7 (hD.1.at 3 rfl) rfl ⟨by decide, rfl, by decide⟩ rfl (by omega) d_D_cost_38 (fun Q2 hQ2 => ?_)
            refine x_iconst d_D_cost_39 ?_
            exact x_zret d_D_cost_40 rfl (narz (by omega)) (lr rfl) (lr rfl) (⟨_, rfl, rfl, Or.inr ⟨by omega, rfl, by rw [if_neg (by omega)]; exact hQ2⟩⟩)
        · refine x_iconst d_D_cost_20 ?_
          exact x_zret d_D_cost_21 rfl (narz (by omega)) (lr rfl) (lr rfl) (⟨_, rfl, rfl, Or.inl ⟨by omega, rfl, rfl⟩⟩)
set_option maxHeartbeats 4000000 in
set_option maxRecDepth 100000 in
theorem c_D_step {σ : xS} {R : xR} (hD : dSh σ) (k i : Int) (hk : -2147483648 ≤ k ∧ k < 2147483648) (hi : -2147483648 ≤ i ∧ i < 2147483648) (hf : 0 ≤ R 1 21 ∧ R 1 21 ≤ 40) (hn : ∀ j, 0 ≤ j → j < R 1 21 → 0 ≤ R 20 j ∧ R 20 j ≤ 6) : Ct m_D_step 1 0 0 [.ref (σ 1).1, vi k, vi i] σ R (Zi σ R (if k < 0 ∨ R 1 21 ≤ k ∨ i < 0 ∨ R 20 k ≤ i then -1 else R (450 + k) i)) := by
  refine Ct.of [some (.ref ((σ 1).1)), some (vi k), some (vi i)] rfl (by decide +kernel) (lr rfl) (fun X => ?_)
  refine x_iload_n d_D_step_0 1 rfl rfl ?_
  refine x_if_lt (tgt := 26) d_D_step_1 rfl (by omega) (fun c1 => ?_) (fun c1 => ?_)
  · refine x_iconst d_D_step_26 ?_
    refine x_goto (tgt := 38) d_D_step_27 rfl ?_
    exact x_iret d_D_step_38 rfl (lr rfl) (lr rfl) (⟨by rw [if_pos (by omega)], rfl, rfl⟩)
  · refine x_iload_n d_D_step_4 1 rfl rfl ?_
    refine x_aload_n d_D_step_5 0 rfl rfl ?_
    refine x_geti 1 21 21 (R 1 21) fl_D_95 tk_17_21 (hD.1.at 0 rfl) rfl rfl rfl d_D_step_6 ?_
    refine x_icmp_ge (tgt := 26) d_D_step_9 rfl (by omega) (by omega) (fun c9 => ?_) (fun c9 => ?_)
    · refine x_iconst d_D_step_26 ?_
      refine x_goto (tgt := 38) d_D_step_27 rfl ?_
      exact x_iret d_D_step_38 rfl (lr rfl) (lr rfl) (⟨by rw [if_pos (by omega)], rfl, rfl⟩)
    · have hn9 := hn k (by omega) (by omega)
      refine x_iload_n d_D_step_12 2 rfl rfl ?_
      refine x_if_lt (tgt := 26) d_D_step_13 rfl (by omega) (fun c13 => ?_) (fun c13 => ?_)
      · refine x_iconst d_D_step_26 ?_
        refine x_goto (tgt := 38) d_D_step_27 rfl ?_
        exact x_iret d_D_step_38 rfl (lr rfl) (lr rfl) (⟨by rw [if_pos (by omega)], rfl, rfl⟩)
      · refine x_iload_n d_D_step_16 2 rfl rfl ?_
        refine x_aload_n d_D_step_17 0 rfl rfl ?_
        refine x_getc 1 19 20 20 fl_D_67 tk_17_19 (hD.1.at 0 rfl) rfl rfl d_D_step_18 ?_
        refine x_iload_n d_D_step_21 1 rfl rfl ?_
        refine x_iald 20 (R 20 k) (hD.1.at 13 rfl) rfl ⟨by decide, rfl, by decide⟩ rfl (by omega) rfl d_D_step_22 ?_
        refine x_icmp_lt (tgt := 30) d_D_step_23 rfl (by omega) (by omega) (fun c23 => ?_) (fun c23 => ?_)
        · refine x_aload_n d_D_step_30 0 rfl rfl ?_
          refine x_getc 1 18 19 19 fl_D_64 tk_17_18 (hD.1.at 0 rfl) rfl rfl d_D_step_31 ?_
          refine x_iload_n d_D_step_34 1 rfl rfl ?_
          refine x_aald 19 (v := .ref ((σ (450 + k)).1)) (hD.1.at 12 rfl) rfl ⟨by decide, rfl, by decide⟩ (by omega) (row44 (by omega)) d_D_step_35 ?_
          refine x_iload_n d_D_step_36 2 rfl rfl ?_
          refine x_bald (450 + k) (R (450 + k) i) (hD.2.2 (k) (by omega) (by omega)) rfl ⟨by decide, rfl, by decide⟩ rfl (by omega) rfl d_D_step_37 ?_
          exact x_iret d_D_step_38 rfl (lr rfl) (lr rfl) (⟨by rw [if_neg (by omega)], rfl, rfl⟩)
        · refine x_iconst d_D_step_26 ?_
          refine x_goto (tgt := 38) d_D_step_27 rfl ?_
          exact x_iret d_D_step_38 rfl (lr rfl) (lr rfl) (⟨by rw [if_pos (by omega)], rfl, rfl⟩)
set_option maxHeartbeats 4000000 in
set_option maxRecDepth 100000 in
theorem c_D_write {σ : xS} {R : xR} (hD : dSh σ) (n c : Int) (hB : sbI σ R 10 n) (hc : 0 ≤ c ∧ c < 65536) : Ct m_D_write 4 0 0 [.ref (σ 1).1, vi c] σ R (Zm σ (fun z R1 => ((c < 32 ∨ 126 < c ∨ 10 ≤ n) ∧ z = 0 ∧ R1 = R) ∨ (¬ (c < 32 ∨ 126 < c ∨ 10 ≤ n) ∧ z = 1 ∧ R1 = xup (xup R 10 3 (n + 1)) 11 n c))) := by
  refine Ct.of [some (.ref ((σ 1).1)), some (vi c)] rfl (by decide +kernel) (lr rfl) (fun X => ?_)
  have hn9 := hB.2.2.2.2
  have hrb : xRc σ 10 (σ 10).1 "java/lang/StringBuilder" := ⟨rfl, 21, 0, 4, F_SB, 4, hB.1, by decide, rfl⟩
  refine x_iload_n d_D_write_0 1 rfl rfl ?_
  refine x_bipush d_D_write_1 rfl ?_
  refine x_icmp_lt (tgt := 24) d_D_write_3 rfl (by omega) (by omega) (fun c3 => ?_) (fun c3 => ?_)
  · refine x_iconst d_D_write_24 ?_
    exact x_zret d_D_write_25 rfl (narz (by omega)) (lr rfl) (lr rfl) (⟨_, rfl, rfl, Or.inl ⟨by omega, rfl, rfl⟩⟩)
  · refine x_iload_n d_D_write_6 1 rfl rfl ?_
    refine x_bipush d_D_write_7 rfl ?_
    refine x_icmp_gt (tgt := 24) d_D_write_9 rfl (by omega) (by omega) (fun c9 => ?_) (fun c9 => ?_)
    · refine x_iconst d_D_write_24 ?_
      exact x_zret d_D_write_25 rfl (narz (by omega)) (lr rfl) (lr rfl) (⟨_, rfl, rfl, Or.inl ⟨by omega, rfl, rfl⟩⟩)
    · refine x_aload_n d_D_write_12 0 rfl rfl ?_
      refine x_getc 1 2 10 10 fl_D_22 tk_17_2 (hD.1.at 0 rfl) rfl rfl d_D_write_13 ?_
      refine x_cvi 10 (As := []) (c_SB_length 10 n hB) cs_D_73 hrb rfl rfl (lr rfl) d_D_write_16 (lr rfl) ⟨lr rfl, lr rfl⟩ ?_
      refine x_bipush d_D_write_19 rfl ?_
      refine x_icmp_lt (tgt := 26) d_D_write_21 rfl (by omega) (by omega) (fun c21 => ?_) (fun c21 => ?_)
      · refine x_aload_n d_D_write_26 0 rfl rfl ?_
        refine x_getc 1 2 10 10 fl_D_22 tk_17_2 (hD.1.at 0 rfl) rfl rfl d_D_write_27 ?_
        refine x_iload_n d_D_write_30 1 rfl rfl ?_
        refine x_cv 10 (As := [vi c]) (c_SB_append 10 n c hB (by omega) (by omega)) cs_D_77 hrb rfl rfl (lr rfl) d_D_write_31 (lr rfl) ⟨lr rfl, lr rfl⟩ (fun r σ2 R2 hZ => ?_)
        obtain ⟨e1, e2, e3⟩ := hZ
        cases e1
        subst e2
        refine x_pop d_D_write_34 rfl ?_
        refine x_iconst d_D_write_35 ?_
        exact x_zret d_D_write_36 rfl (narz (by omega)) (lr rfl) (lr rfl) (⟨_, rfl, rfl, Or.inr ⟨by omega, rfl, e3⟩⟩)
      · refine x_iconst d_D_write_24 ?_
        exact x_zret d_D_write_25 rfl (narz (by omega)) (lr rfl) (lr rfl) (⟨_, rfl, rfl, Or.inl ⟨by omega, rfl, rfl⟩⟩)
set_option maxHeartbeats 4000000 in
set_option maxRecDepth 100000 in
theorem c_D_count {σ : xS} {R : xR} (hD : dSh σ) (what n e : Int) (cap : Nat) (hA : alI σ R 2 e n cap) (hw : -2147483648 ≤ what ∧ what < 2147483648) (hc : R 1 12 = 0 ∨ R 1 12 = 1) : Ct m_D_count 2 0 0 [.ref (σ 1).1, vi what] σ R (Zi σ R (if what = 0 then n else if what = 1 then (if R 1 12 = 0 then 0 else R 1 10) else if what = 2 then (if R 1 12 = 0 then 0 else R 1 13) else -1)) := by
  refine Ct.of [some (.ref ((σ 1).1)), some (vi what)] rfl (by decide +kernel) (lr rfl) (fun X => ?_)
  refine x_iload_n d_D_count_0 1 rfl rfl ?_
  by_cases hin : 0 ≤ what ∧ what ≤ 2
  · rcases (show what = 0 ∨ what = 1 ∨ what = 2 by omega) with rfl | rfl | rfl
    · refine x_tableIn (off := 27) (tgt := 28) d_D_count_1 (by omega) (by omega) rfl rfl ?_
      refine x_aload_n d_D_count_28 0 rfl rfl ?_
      refine x_getc 1 0 2 2 fl_D_10 tk_17_0 (hD.1.at 0 rfl) rfl rfl d_D_count_29 ?_
      refine x_cvi 2 (As := []) (c_AL_size 2 e n cap hA) cs_D_128 hA.rc rfl rfl (lr rfl) d_D_count_32 (lr rfl) ⟨lr rfl, lr rfl⟩ ?_
      exact x_iret d_D_count_35 rfl (lr rfl) (lr rfl) (⟨rfl, rfl, rfl⟩)
    · refine x_tableIn (off := 35) (tgt := 36) d_D_count_1 (by omega) (by omega) rfl rfl ?_
      refine x_aload_n d_D_count_36 0 rfl rfl ?_
      refine x_geti 1 12 12 (R 1 12) fl_D_146 tk_17_12 (hD.1.at 0 rfl) rfl rfl rfl d_D_count_37 ?_
      refine x_if_eq (tgt := 50) d_D_count_40 rfl (by omega) (fun c40 => ?_) (fun c40 => ?_)
      · refine x_iconst d_D_count_50 ?_
        exact x_iret d_D_count_51 rfl (lr rfl) (lr rfl) (⟨by show _ = Outcome.returned (some (vi (if R 1 12 = 0 then 0 else R 1 10))); rw [if_pos (by omega)], rfl, rfl⟩)
      · refine x_aload_n d_D_count_43 0 rfl rfl ?_
        refine x_geti 1 10 10 (R 1 10) fl_D_197 tk_17_10 (hD.1.at 0 rfl) rfl rfl rfl d_D_count_44 ?_
        refine x_goto (tgt := 51) d_D_count_47 rfl ?_
        exact x_iret d_D_count_51 rfl (lr rfl) (lr rfl) (⟨by show _ = Outcome.returned (some (vi (if R 1 12 = 0 then 0 else R 1 10))); rw [if_neg (by omega)], rfl, rfl⟩)
    · refine x_tableIn (off := 51) (tgt := 52) d_D_count_1 (by omega) (by omega) rfl rfl ?_
      refine x_aload_n d_D_count_52 0 rfl rfl ?_
      refine x_geti 1 12 12 (R 1 12) fl_D_146 tk_17_12 (hD.1.at 0 rfl) rfl rfl rfl d_D_count_53 ?_
      refine x_if_eq (tgt := 66) d_D_count_56 rfl (by omega) (fun c56 => ?_) (fun c56 => ?_)
      · refine x_iconst d_D_count_66 ?_
        exact x_iret d_D_count_67 rfl (lr rfl) (lr rfl) (⟨by show _ = Outcome.returned (some (vi (if R 1 12 = 0 then 0 else R 1 13))); rw [if_pos (by omega)], rfl, rfl⟩)
      · refine x_aload_n d_D_count_59 0 rfl rfl ?_
        refine x_geti 1 13 13 (R 1 13) fl_D_232 tk_17_13 (hD.1.at 0 rfl) rfl rfl rfl d_D_count_60 ?_
        refine x_goto (tgt := 67) d_D_count_63 rfl ?_
        exact x_iret d_D_count_67 rfl (lr rfl) (lr rfl) (⟨by show _ = Outcome.returned (some (vi (if R 1 12 = 0 then 0 else R 1 13))); rw [if_neg (by omega)], rfl, rfl⟩)
  · refine x_tableOut (tgt := 68) d_D_count_1 (by omega) (by omega) rfl ?_
    refine x_iconst d_D_count_68 ?_
    exact x_iret d_D_count_69 rfl (lr rfl) (lr rfl) (⟨by rw [if_neg (by omega), if_neg (by omega), if_neg (by omega)], rfl, rfl⟩)
set_option maxHeartbeats 4000000 in
set_option maxRecDepth 100000 in
theorem c_D_there {σ : xS} {R : xR} (hD : dSh σ) (k x : Int) (hk : -2147483648 ≤ k ∧ k < 2147483648) (hf : 0 ≤ R 1 21 ∧ R 1 21 ≤ 40) (h9 : x < 90 ∨ 99 < x) (hx : (σ x).2.1 = 0) : CtT m_D_there 6 1 6 [.ref (σ 1).1, vi k] σ R (Zn (0 ≤ k ∧ k < R 1 21) σ R x 11) := by
  refine CtT.of [some (.ref ((σ 1).1)), some (vi k)] rfl (by decide +kernel) (lr rfl) (fun X => ?_)
  refine x_iload_n d_D_there_0 1 rfl rfl ?_
  refine x_if_lt (tgt := 12) d_D_there_1 rfl (by omega) (fun c1 => ?_) (fun c1 => ?_)
  · exact x_throwNew x 11 (ci := 10) h9 hx (by decide) rfl ew_NSE d_D_there_12 d_D_there_15 d_D_there_16 d_D_there_19 (by decide +kernel) (lr rfl) ⟨lr rfl, lr rfl⟩ (lr rfl) (fun q => Or.inr ⟨by omega, q, rfl, rfl, rfl⟩)
  · refine x_iload_n d_D_there_4 1 rfl rfl ?_
    refine x_aload_n d_D_there_5 0 rfl rfl ?_
    refine x_geti 1 21 21 (R 1 21) fl_D_95 tk_17_21 (hD.1.at 0 rfl) rfl rfl rfl d_D_there_6 ?_
    refine x_icmp_lt (tgt := 20) d_D_there_9 rfl (by omega) (by omega) (fun c9 => ?_) (fun c9 => ?_)
    · exact x_vret d_D_there_20 rfl (lr rfl) (lr rfl) (Or.inl ⟨by omega, rfl, rfl, rfl⟩)
    · exact x_throwNew x 11 (ci := 10) h9 hx (by decide) rfl ew_NSE d_D_there_12 d_D_there_15 d_D_there_16 d_D_there_19 (by decide +kernel) (lr rfl) ⟨lr rfl, lr rfl⟩ (lr rfl) (fun q => Or.inr ⟨by omega, q, rfl, rfl, rfl⟩)
set_option maxHeartbeats 4000000 in
set_option maxRecDepth 100000 in
theorem c_D_reach {σ : xS} {R : xR} (hD : dSh σ) (k x : Int) (hk : -2147483648 ≤ k ∧ k < 2147483648) (hf : 0 ≤ R 1 21 ∧ R 1 21 ≤ 40) (h9 : x < 90 ∨ 99 < x) (hx : (σ x).2.1 = 0) : CtT m_D_reach 7 1 6 [.ref (σ 1).1, vi k] σ R (fun o σ' R' => (¬ (0 ≤ k ∧ k < R 1 21) ∧ Zx σ R x 11 o σ' R') ∨ ((0 ≤ k ∧ k < R 1 21) ∧ Zi σ R (R 21 k) o σ' R')) := by
  refine CtT.of [some (.ref ((σ 1).1)), some (vi k)] rfl (by decide +kernel) (lr rfl) (fun X => ?_)
  refine x_aload_n d_D_reach_0 0 rfl rfl ?_
  refine x_iload_n d_D_reach_1 1 rfl rfl ?_
  refine x_callVT 1 (As := [vi k]) (c_D_there hD k x hk hf h9 hx) cs_D_260 (thisD hD) rfl rfl (lr rfl) d_D_reach_2 (lr rfl) ⟨lr rfl, lr rfl⟩ (fun r σ2 R2 hZ => ?_) (fun y σ2 R2 hZ => ?_)
  · rcases hZ with ⟨hc, e1, e2, e3⟩ | ⟨hc, q, e1, e2⟩
    · cases e1
      subst e2
      subst e3
      refine x_aload_n d_D_reach_5 0 rfl rfl ?_
      refine x_getc 1 20 21 21 fl_D_70 tk_17_20 (hD.1.at 0 rfl) rfl rfl d_D_reach_6 ?_
      refine x_iload_n d_D_reach_9 1 rfl rfl ?_
      refine x_iald 21 (R2 21 k) (hD.1.at 14 rfl) rfl ⟨by decide, rfl, by decide⟩ rfl (by omega) rfl d_D_reach_10 ?_
      exact x_iret d_D_reach_11 rfl (lr rfl) (lr rfl) (Or.inr ⟨hc, rfl, rfl, rfl⟩)
    · cases e1
  · rcases hZ with ⟨hc, e1, e2, e3⟩ | ⟨hc, q, e1, e2⟩
    · cases e1
    · exact Vt.leave (by decide +kernel) (lr rfl) (lr rfl) (Or.inl ⟨hc, q, e1, e2⟩)
set_option maxHeartbeats 4000000 in
theorem c_D_taken {σ : xS} {R : xR} (hD : dSh σ) (k : Int) (n : Nat) (hk : (σ k).2.1 = 0) (h9 : k < 90 ∨ 99 < k) (h91 : k + 1 < 90 ∨ 99 < k + 1) (hf : (σ (k + 1)).2.1 = 0) (h : sbI σ R 10 n) (hel : ∀ i, 0 ≤ i → i < (n : Int) → 0 ≤ R 11 i ∧ R 11 i < 128) :
    Ct m_D_taken 7 2 20 [.ref (σ 1).1] σ R (fun o σ' R' => o = .returned (some (.ref (σ' k).1)) ∧ (∃ q a, σ' = xsu (xsu σ (k + 1) (q, 35, n)) k (a, 22, 0)) ∧ R' k 1 = 0 ∧ (∀ i, 0 ≤ i → i < (n : Int) → R' (k + 1) i = R 11 i) ∧ R' 10 1 = 0 ∧ R' 10 3 = 0 ∧ ∀ a, a ≠ k → a ≠ k + 1 → a ≠ 10 → R' a = R a) := by
  refine Ct.of [some (.ref (σ 1).1), none] rfl (by decide +kernel) (lr rfl) (fun X => ?_)
  have h1k : (1 : Int) ≠ k := fun e => by have h1 := hD.1.at 0 (k := 1) (t := 17) (n := 0) rfl; rw [e] at h1; rw [h1] at hk; cases hk
  have h1k1 : (1 : Int) ≠ k + 1 := fun e => by have h1 := hD.1.at 0 (k := 1) (t := 17) (n := 0) rfl; rw [e] at h1; rw [h1] at hf; cases hf
  have hak : (10 : Int) ≠ k := fun e => by have h1 := h.1; rw [e] at h1; rw [h1] at hk; cases hk
  have hak1 : (10 : Int) ≠ k + 1 := fun e => by have h1 := h.1; rw [e] at h1; rw [h1] at hf; cases hf
  have hbk : (11 : Int) ≠ k := fun e => by have h1 : (σ 11).2 = (35, 16) := h.2.1; rw [e] at h1; rw [h1] at hk; cases hk
  have hbk1 : (11 : Int) ≠ k + 1 := fun e => by have h1 : (σ 11).2 = (35, 16) := h.2.1; rw [e] at h1; rw [h1] at hf; cases hf
  have hrb : xRc σ 10 (σ 10).1 "java/lang/StringBuilder" := ⟨rfl, 21, 0, 4, F_SB, 4, h.1, by decide, rfl⟩
  refine x_aload_n d_D_taken_0 0 rfl rfl ?_
  refine x_getc 1 2 10 10 fl_D_22 tk_17_2 (hD.1.at 0 rfl) rfl rfl d_D_taken_1 ?_
  refine x_cv 10 (As := []) (c_SB_toString k 10 n hk h9 h91 hf h (fun i i1 i2 => by have := hel i i1 i2; show -128 ≤ R 11 i ∧ R 11 i < 128; omega)) cs_D_87 hrb rfl rfl (lr rfl) d_D_taken_4 (lr rfl) ⟨lr rfl, lr rfl⟩ (fun r σ2 R2 hZ => ?_)
  obtain ⟨e1, ⟨q, a, e2⟩, e3, e4, e5⟩ := hZ
  cases e1
  refine x_astore_n d_D_taken_7 1 rfl [some (.ref (σ 1).1), some (.ref (σ2 k).1)] rfl rfl (lr rfl) ?_
  have s1 : σ2 1 = σ 1 := by rw [e2, xsu_ne _ _ h1k, xsu_ne _ _ h1k1]
  have s10 : σ2 10 = σ 10 := by rw [e2, xsu_ne _ _ hak, xsu_ne _ _ hak1]
  have s11 : σ2 11 = σ 11 := by rw [e2, xsu_ne _ _ hbk, xsu_ne _ _ hbk1]
  refine x_aload_n d_D_taken_8 0 rfl rfl ?_
  refine x_getc 1 2 10 10 fl_D_22 tk_17_2 (n := 0) (by rw [s1]; exact hD.1.at 0 rfl) (by rw [s1]) rfl d_D_taken_9 ?_
  refine x_iconst d_D_taken_12 ?_
  have hb2 : sbI σ2 R2 10 n := ⟨by rw [s10]; exact h.1, by show (σ2 11).2 = _; rw [s11]; exact h.2.1, by rw [e5 10 hak hak1]; exact h.2.2.1, by rw [e5 10 hak hak1]; exact h.2.2.2.1, h.2.2.2.2⟩
  refine x_cvv 10 (As := [vi 0]) (c_SB_setLength 10 n hb2) cs_D_91 ⟨rfl, 21, 0, 4, F_SB, 4, hb2.1, by decide, rfl⟩ rfl rfl (lr rfl) d_D_taken_13 (lr rfl) ⟨lr rfl, lr rfl⟩ (fun R3 hR3 => ?_)
  obtain ⟨g1, g2, g3⟩ := hR3
  refine x_aload_n d_D_taken_16 1 rfl rfl ?_
  exact x_aret d_D_taken_17 rfl (Or.inl ⟨_, rfl⟩) (Or.inr ⟨_, rfl⟩) (lr rfl) (lr rfl) ⟨rfl, ⟨q, a, e2⟩, by rw [g3 k (fun e => hak e.symm)]; exact e3, fun i i1 i2 => by rw [g3 (k + 1) (fun e => hak1 e.symm)]; exact e4 i i1 i2, g1, g2, fun b b1 b2 b3 => by rw [g3 b b3]; exact e5 b b1 b2⟩
