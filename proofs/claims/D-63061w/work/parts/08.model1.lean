/-! the model: its regions; small methods (walks printed by gen/model1.py) -/
theorem lr {a b : Nat} (h : Nat.ble a b = true) : a ≤ b := Nat.le_of_ble_eq_true h
theorem narc {a : Int} (h : 0 ≤ a ∧ a < 65536) : narrow .char (vi a) = vi a := by
  obtain ⟨n, rfl⟩ := Int.eq_ofNat_of_zero_le h.1
  have h2 := (pk_charN (q := n) (by omega)).1
  rw [← iI_nat] at h2
  exact h2
theorem nars {a : Int} (h : -32768 ≤ a ∧ a < 32768) : narrow .short (vi a) = vi a := by
  show Value.int (iI a).toInt16.toInt32 = Value.int (iI a)
  congr 1
  rw [← Int32.toInt_inj, Int16.toInt_toInt32, Int32.toInt_toInt16, iI_toInt (by omega)]
  exact Int.bmod_eq_of_le (by omega) (by omega)
theorem narb {a : Int} (h : -128 ≤ a ∧ a < 128) : narrow .byte (vi a) = vi a := by
  show Value.int (iI a).toInt8.toInt32 = Value.int (iI a)
  congr 1
  rw [← Int32.toInt_inj, Int8.toInt_toInt32, Int32.toInt_toInt8, iI_toInt (by omega)]
  exact Int.bmod_eq_of_le (by omega) (by omega)
def mshape : List (Int × Nat × Nat) := [(30, 23, 0), (32, 34, 10), (35, 32, 11), (36, 32, 11), (37, 32, 44), (38, 33, 11), (39, 33, 6), (40, 33, 6), (41, 32, 6), (44, 32, 2310), (45, 32, 492), (48, 32, 16), (49, 32, 24), (50, 32, 400), (51, 32, 6), (52, 32, 6), (55, 32, 280), (56, 32, 40), (57, 32, 8)]
theorem thisM {σ : xS} (hM : xsh σ mshape) : xRc σ 30 (σ 30).1 "RepairDeskModel" := ⟨rfl, 23, 0, 6, F_Model, 29, hM.at 0 rfl, by decide, rfl⟩
set_option maxHeartbeats 4000000 in
set_option maxRecDepth 100000 in
theorem c_P_thrown {σ : xS} {R : xR} (hM : xsh σ mshape)  : Ct m_P_thrown 1 0 0 [.ref (σ 30).1] σ R (Zi σ R (R 30 0)) := by
  refine Ct.of [some (.ref ((σ 30).1))] rfl (by decide +kernel) (lr rfl) (fun X => ?_)
  refine x_aload_n d_P_thrown_0 0 rfl rfl ?_
  refine x_geti 30 0 0 (R 30 0) fl_P_66 tk_23_0 (hM.at 0 rfl) rfl rfl rfl d_P_thrown_1 ?_
  exact x_iret d_P_thrown_4 rfl (lr rfl) (lr rfl) (⟨rfl, rfl, rfl⟩)
set_option maxHeartbeats 4000000 in
set_option maxRecDepth 100000 in
theorem c_P_fails {σ : xS} {R : xR} (hM : xsh σ mshape) (n : Int) : Ct m_P_fails 1 0 0 [.ref (σ 30).1, vi n] σ R (Zm σ (fun z R1 => z = 0 ∧ R1 = xup R 30 0 n)) := by
  refine Ct.of [some (.ref ((σ 30).1)), some (vi n)] rfl (by decide +kernel) (lr rfl) (fun X => ?_)
  refine x_aload_n d_P_fails_0 0 rfl rfl ?_
  refine x_iload_n d_P_fails_1 1 rfl rfl ?_
  refine x_puti 30 0 0 fp_P_66 tk_23_0 (hM.at 0 rfl) rfl rfl d_P_fails_2 (fun Q1 hQ1 => ?_)
  refine x_iconst d_P_fails_5 ?_
  exact x_iret d_P_fails_6 rfl (lr rfl) (lr rfl) (⟨_, rfl, rfl, rfl, hQ1⟩)
set_option maxHeartbeats 4000000 in
set_option maxRecDepth 100000 in
theorem c_P_forget {σ : xS} {R : xR} (hM : xsh σ mshape)  : Ct m_P_forget 1 0 0 [.ref (σ 30).1] σ R (Zv σ (fun R1 => R1 = xup (xup R 30 22 0) 30 23 0)) := by
  refine Ct.of [some (.ref ((σ 30).1))] rfl (by decide +kernel) (lr rfl) (fun X => ?_)
  refine x_aload_n d_P_forget_0 0 rfl rfl ?_
  refine x_iconst d_P_forget_1 ?_
  refine x_puti 30 22 22 fp_P_73 tk_23_22 (hM.at 0 rfl) rfl rfl d_P_forget_2 (fun Q1 hQ1 => ?_)
  refine x_aload_n d_P_forget_5 0 rfl rfl ?_
  refine x_iconst d_P_forget_6 ?_
  refine x_puti 30 23 23 fp_P_76 tk_23_23 (hM.at 0 rfl) rfl rfl d_P_forget_7 (fun Q2 hQ2 => ?_)
  exact x_vret d_P_forget_10 rfl (lr rfl) (lr rfl) (⟨rfl, rfl, by rw [hQ2, hQ1]⟩)
def zb (p : Prop) [Decidable p] : Int := if p then 1 else 0
theorem zb_t {p : Prop} [Decidable p] (h : p) : zb p = 1 := if_pos h
theorem zb_f {p : Prop} [Decidable p] (h : ¬ p) : zb p = 0 := if_neg h
set_option maxHeartbeats 4000000 in
theorem c_P_isLetter {σ : xS} {R : xR} (c : Int) (hc : 0 ≤ c ∧ c < 65536) : Ct m_P_isLetter 1 0 0 [vi c] σ R (Zi σ R (zb (97 ≤ c ∧ c ≤ 102))) := by
  refine Ct.of [some (vi c)] rfl (by decide +kernel) (lr rfl) (fun X => ?_)
  refine x_iload_n d_P_isLetter_0 0 rfl rfl ?_
  refine x_bipush d_P_isLetter_1 rfl ?_
  refine x_icmp_lt (tgt := 16) d_P_isLetter_3 rfl (by omega) (by omega) (fun c3 => ?_) (fun c3 => ?_)
  · refine x_iconst d_P_isLetter_16 ?_
    exact x_zret d_P_isLetter_17 rfl (narz (by omega)) (lr rfl) (lr rfl) (⟨by rw [zb_f (by omega)], rfl, rfl⟩)
  · refine x_iload_n d_P_isLetter_6 0 rfl rfl ?_
    refine x_bipush d_P_isLetter_7 rfl ?_
    refine x_icmp_gt (tgt := 16) d_P_isLetter_9 rfl (by omega) (by omega) (fun c9 => ?_) (fun c9 => ?_)
    · refine x_iconst d_P_isLetter_16 ?_
      exact x_zret d_P_isLetter_17 rfl (narz (by omega)) (lr rfl) (lr rfl) (⟨by rw [zb_f (by omega)], rfl, rfl⟩)
    · refine x_iconst d_P_isLetter_12 ?_
      refine x_goto (tgt := 17) d_P_isLetter_13 rfl ?_
      exact x_zret d_P_isLetter_17 rfl (narz (by omega)) (lr rfl) (lr rfl) (⟨by rw [zb_t (by omega)], rfl, rfl⟩)
set_option maxHeartbeats 4000000 in
theorem c_P_isName {σ : xS} {R : xR} (c : Int) (hc : 0 ≤ c ∧ c < 65536) : Ct m_P_isName 1 0 0 [vi c] σ R (Zi σ R (zb (65 ≤ c ∧ c ≤ 70))) := by
  refine Ct.of [some (vi c)] rfl (by decide +kernel) (lr rfl) (fun X => ?_)
  refine x_iload_n d_P_isName_0 0 rfl rfl ?_
  refine x_bipush d_P_isName_1 rfl ?_
  refine x_icmp_lt (tgt := 16) d_P_isName_3 rfl (by omega) (by omega) (fun c3 => ?_) (fun c3 => ?_)
  · refine x_iconst d_P_isName_16 ?_
    exact x_zret d_P_isName_17 rfl (narz (by omega)) (lr rfl) (lr rfl) (⟨by rw [zb_f (by omega)], rfl, rfl⟩)
  · refine x_iload_n d_P_isName_6 0 rfl rfl ?_
    refine x_bipush d_P_isName_7 rfl ?_
    refine x_icmp_gt (tgt := 16) d_P_isName_9 rfl (by omega) (by omega) (fun c9 => ?_) (fun c9 => ?_)
    · refine x_iconst d_P_isName_16 ?_
      exact x_zret d_P_isName_17 rfl (narz (by omega)) (lr rfl) (lr rfl) (⟨by rw [zb_f (by omega)], rfl, rfl⟩)
    · refine x_iconst d_P_isName_12 ?_
      refine x_goto (tgt := 17) d_P_isName_13 rfl ?_
      exact x_zret d_P_isName_17 rfl (narz (by omega)) (lr rfl) (lr rfl) (⟨by rw [zb_t (by omega)], rfl, rfl⟩)
set_option maxHeartbeats 4000000 in
set_option maxRecDepth 100000 in
theorem c_P_symbol {σ : xS} {R : xR} (hM : xsh σ mshape) (r p : Int) (hr : 0 ≤ r ∧ r ≤ 10) (hp : 0 ≤ p ∧ p ≤ 5) (hl : 0 ≤ R 36 r ∧ R 36 r ≤ 4) : Ct m_P_symbol 1 0 0 [.ref (σ 30).1, vi r, vi p] σ R (Zi σ R (if p < R 36 r then R 37 (4 * r + p) else -1)) := by
  refine Ct.of [some (.ref ((σ 30).1)), some (vi r), some (vi p)] rfl (by decide +kernel) (lr rfl) (fun X => ?_)
  refine x_iload_n d_P_symbol_0 2 rfl rfl ?_
  refine x_aload_n d_P_symbol_1 0 rfl rfl ?_
  refine x_getc 30 5 36 36 fl_P_17 tk_23_5 (hM.at 0 rfl) rfl rfl d_P_symbol_2 ?_
  refine x_iload_n d_P_symbol_5 1 rfl rfl ?_
  refine x_iald 36 (R 36 r) (hM.at 3 rfl) rfl ⟨by decide, rfl, by decide⟩ rfl (by omega) rfl d_P_symbol_6 ?_
  refine x_icmp_ge (tgt := 23) d_P_symbol_7 rfl (by omega) (by omega) (fun c7 => ?_) (fun c7 => ?_)
  · refine x_iconst d_P_symbol_23 ?_
    exact x_iret d_P_symbol_24 rfl (lr rfl) (lr rfl) (⟨by rw [if_neg (by omega)], rfl, rfl⟩)
  · refine x_aload_n d_P_symbol_10 0 rfl rfl ?_
    refine x_getc 30 6 37 37 fl_P_20 tk_23_6 (hM.at 0 rfl) rfl rfl d_P_symbol_11 ?_
    refine x_iconst d_P_symbol_14 ?_
    refine x_iload_n d_P_symbol_15 1 rfl rfl ?_
    refine x_imul d_P_symbol_16 ?_
    refine x_iload_n d_P_symbol_17 2 rfl rfl ?_
    refine x_iadd d_P_symbol_18 ?_
    refine x_iald 37 (R 37 ((4 * r) + p)) (hM.at 4 rfl) rfl ⟨by decide, rfl, by decide⟩ rfl (by omega) rfl d_P_symbol_19 ?_
    refine x_goto (tgt := 24) d_P_symbol_20 rfl ?_
    exact x_iret d_P_symbol_24 rfl (lr rfl) (lr rfl) (⟨by rw [if_pos (by omega)], rfl, rfl⟩)
set_option maxHeartbeats 4000000 in
set_option maxRecDepth 100000 in
theorem c_P_write {σ : xS} {R : xR} (hM : xsh σ mshape) (c : Int) (hc : 0 ≤ c ∧ c < 65536) (hw : 0 ≤ R 30 2 ∧ R 30 2 ≤ 10) : Ct m_P_write 1 0 0 [.ref (σ 30).1, vi c] σ R (Zm σ (fun z R1 => ((c < 32 ∨ 126 < c ∨ 10 ≤ R 30 2) ∧ z = 0 ∧ R1 = xup R 30 0 0) ∨ (¬ (c < 32 ∨ 126 < c ∨ 10 ≤ R 30 2) ∧ z = 1 ∧ R1 = xup (xup (xup R 30 0 0) 32 (R 30 2) c) 30 2 (R 30 2 + 1)))) := by
  refine Ct.of [some (.ref ((σ 30).1)), some (vi c)] rfl (by decide +kernel) (lr rfl) (fun X => ?_)
  refine x_aload_n d_P_write_0 0 rfl rfl ?_
  refine x_iconst d_P_write_1 ?_
  refine x_puti 30 0 0 fp_P_66 tk_23_0 (hM.at 0 rfl) rfl rfl d_P_write_2 (fun Q1 hQ1 => ?_)
  refine x_iload_n d_P_write_5 1 rfl rfl ?_
  refine x_bipush d_P_write_6 rfl ?_
  refine x_icmp_lt (tgt := 26) d_P_write_8 rfl (by omega) (by omega) (fun c8 => ?_) (fun c8 => ?_)
  · refine x_iconst d_P_write_26 ?_
    exact x_zret d_P_write_27 rfl (narz (by omega)) (lr rfl) (lr rfl) (⟨_, rfl, rfl, Or.inl ⟨by omega, rfl, hQ1⟩⟩)
  · refine x_iload_n d_P_write_11 1 rfl rfl ?_
    refine x_bipush d_P_write_12 rfl ?_
    refine x_icmp_gt (tgt := 26) d_P_write_14 rfl (by omega) (by omega) (fun c14 => ?_) (fun c14 => ?_)
    · refine x_iconst d_P_write_26 ?_
      exact x_zret d_P_write_27 rfl (narz (by omega)) (lr rfl) (lr rfl) (⟨_, rfl, rfl, Or.inl ⟨by omega, rfl, hQ1⟩⟩)
    · refine x_aload_n d_P_write_17 0 rfl rfl ?_
      refine x_geti 30 2 2 (R 30 2) fl_P_70 tk_23_2 (hM.at 0 rfl) rfl rfl (xr_d hQ1 (by decide)) d_P_write_18 ?_
      refine x_bipush d_P_write_21 rfl ?_
      refine x_icmp_lt (tgt := 28) d_P_write_23 rfl (by omega) (by omega) (fun c23 => ?_) (fun c23 => ?_)
      · refine x_aload_n d_P_write_28 0 rfl rfl ?_
        refine x_getc 30 1 32 32 fl_P_7 tk_23_1 (hM.at 0 rfl) rfl rfl d_P_write_29 ?_
        refine x_aload_n d_P_write_32 0 rfl rfl ?_
        refine x_geti 30 2 2 (R 30 2) fl_P_70 tk_23_2 (hM.at 0 rfl) rfl rfl (xr_d hQ1 (by decide)) d_P_write_33 ?_
        refine x_iload_n d_P_write_36 1 rfl rfl ?_
        refine x_cast 32 (hM.at 1 rfl) rfl ⟨by decide, rfl, by decide⟩ rfl (by omega) (narc (by omega)) d_P_write_37 (fun Q2 hQ2 => ?_)
        refine x_aload_n d_P_write_38 0 rfl rfl ?_
        refine x_dup d_P_write_39 rfl ?_
        refine x_geti 30 2 2 (R 30 2) fl_P_70 tk_23_2 (hM.at 0 rfl) rfl rfl ((xr_o hQ2 (by decide)).trans (xr_d hQ1 (by decide))) d_P_write_40 ?_
        refine x_iconst d_P_write_43 ?_
        refine x_iadd d_P_write_44 ?_
        refine x_puti 30 2 2 fp_P_70 tk_23_2 (hM.at 0 rfl) rfl rfl d_P_write_45 (fun Q3 hQ3 => ?_)
        refine x_iconst d_P_write_48 ?_
        exact x_zret d_P_write_49 rfl (narz (by omega)) (lr rfl) (lr rfl) (⟨_, rfl, rfl, Or.inr ⟨by omega, rfl, by rw [hQ3, hQ2, hQ1]⟩⟩)
      · refine x_iconst d_P_write_26 ?_
        exact x_zret d_P_write_27 rfl (narz (by omega)) (lr rfl) (lr rfl) (⟨_, rfl, rfl, Or.inl ⟨by omega, rfl, hQ1⟩⟩)
