/-! the model: text, cost, parse, step, price, reach, letter (walks printed by gen/model10.py) -/
theorem zb_cs (p : Prop) [Decidable p] : (p ∧ zb p = 1) ∨ (¬ p ∧ zb p = 0) := by
  by_cases h : p
  · exact Or.inl ⟨h, zb_t h⟩
  · exact Or.inr ⟨h, zb_f h⟩
def tGood (n : Int) (b : Int → Int) : Prop := n ≤ 8 ∧ ∀ i, 0 ≤ i → i < n → 97 ≤ b i ∧ b i ≤ 102
set_option maxHeartbeats 4000000 in
set_option maxRecDepth 100000 in
theorem c_P_text {σ : xS} {R : xR} (hM : xsh σ mshape) (hw : 0 ≤ R 30 2 ∧ R 30 2 ≤ 10) (hch : ∀ i, 0 ≤ i → i < R 30 2 → 0 ≤ R 32 i ∧ R 32 i < 65536) : Ct m_P_text 2 0 0 [.ref (σ 30).1] σ R (Zm σ (fun z R1 => (∀ p q, p ≠ 48 → ¬ (p = 30 ∧ (q = 0 ∨ q = 2 ∨ q = 15 ∨ q = 22 ∨ q = 23)) → R1 p q = R p q) ∧ R1 30 2 = 0 ∧ ((tGood (R 30 2) (R 32) ∧ R1 30 0 = 0 ∧ z = R 30 2 ∧ R1 30 15 = R 30 2 ∧ (∀ i, 0 ≤ i → i < R 30 2 → R1 48 i = R 32 i - 97) ∧ R1 30 22 = 0 ∧ R1 30 23 = 0) ∨ (¬ tGood (R 30 2) (R 32) ∧ R1 30 0 = 1 ∧ (∀ q, R1 48 q = R 48 q) ∧ R1 30 15 = R 30 15 ∧ R1 30 22 = R 30 22 ∧ R1 30 23 = R 30 23)))) := by
  refine Ct.of [some (.ref ((σ 30).1)), none, none, none] rfl (by decide +kernel) (lr rfl) (fun X => ?_)
  have hthis := thisM hM
  refine x_aload_n d_P_text_0 0 rfl rfl ?_
  refine x_iconst d_P_text_1 ?_
  refine x_puti 30 0 0 fp_P_66 tk_23_0 (hM.at 0 rfl) rfl rfl d_P_text_2 (fun Q1 hQ1 => ?_)
  refine x_aload_n d_P_text_5 0 rfl rfl ?_
  refine x_geti 30 2 2 (R 30 2) fl_P_70 tk_23_2 (hM.at 0 rfl) rfl rfl (xr_d hQ1 (by decide)) d_P_text_6 ?_
  refine x_istore_n d_P_text_9 1 rfl [some (.ref ((σ 30).1)), some (vi (R 30 2)), none, none] rfl rfl (lr rfl) ?_
  refine x_aload_n d_P_text_10 0 rfl rfl ?_
  refine x_iconst d_P_text_11 ?_
  refine x_puti 30 2 2 fp_P_70 tk_23_2 (hM.at 0 rfl) rfl rfl d_P_text_12 (fun Q2 hQ2 => ?_)
  refine x_iload_n d_P_text_15 1 rfl rfl ?_
  refine x_bipush d_P_text_16 rfl ?_
  refine x_icmp_gt (tgt := 25) d_P_text_18 rfl (by omega) (by omega) (fun c18 => ?_) (fun c18 => ?_)
  · refine x_iconst d_P_text_25 ?_
    refine x_istore_n d_P_text_26 2 rfl [some (.ref ((σ 30).1)), some (vi (R 30 2)), some (vi 0), none] rfl rfl (lr rfl) ?_
    refine x_iconst d_P_text_27 ?_
    refine x_istore_n d_P_text_28 3 rfl [some (.ref ((σ 30).1)), some (vi (R 30 2)), some (vi 0), some (vi 0)] rfl rfl (lr rfl) ?_
    have hkp : ∀ p q, ¬ (p = 30 ∧ (q = 0 ∨ q = 2)) → Q2 p q = R p q := fun p q a => (xr_up hQ2 (by omega)).trans (xr_up hQ1 (by omega))
    have h02 : Q2 30 2 = 0 := xr_s hQ2
    have h00 : Q2 30 0 = 0 := (xr_d hQ2 (by decide)).trans (xr_s hQ1)
    generalize Q2 = R1 at hkp h02 h00 ⊢
    have hl : ∀ (m : Nat) (k : Int) (ok : Int), (16 - k).toNat = m → (0 ≤ k ∧ (k ≤ R 30 2 ∨ k = 0)) → (ok = zc (R 30 2 ≤ 8 ∧ ∀ i, 0 ≤ i → i < k → 97 ≤ R 32 i ∧ R 32 i ≤ 102)) → V X m_P_text (2, 0, 0, Zm σ (fun z R1 => (∀ p q, p ≠ 48 → ¬ (p = 30 ∧ (q = 0 ∨ q = 2 ∨ q = 15 ∨ q = 22 ∨ q = 23)) → R1 p q = R p q) ∧ R1 30 2 = 0 ∧ ((tGood (R 30 2) (R 32) ∧ R1 30 0 = 0 ∧ z = R 30 2 ∧ R1 30 15 = R 30 2 ∧ (∀ i, 0 ≤ i → i < R 30 2 → R1 48 i = R 32 i - 97) ∧ R1 30 22 = 0 ∧ R1 30 23 = 0) ∨ (¬ tGood (R 30 2) (R 32) ∧ R1 30 0 = 1 ∧ (∀ q, R1 48 q = R 48 q) ∧ R1 30 15 = R 30 15 ∧ R1 30 22 = R 30 22 ∧ R1 30 23 = R 30 23)))) σ R1 0 0 29 [some (.ref ((σ 30).1)), some (vi (R 30 2)), some (vi ok), some (vi k)] [] := by
      intro m
      induction m using Nat.strongRecOn with
      | _ m ih =>
        intro k ok hm hk1 hi1
        refine x_iload_n d_P_text_29 3 rfl rfl ?_
        refine x_iload_n d_P_text_30 1 rfl rfl ?_
        refine x_icmp_ge (tgt := 54) d_P_text_31 rfl (by omega) (by omega) (fun c31 => ?_) (fun c31 => ?_)
        · have hok := zc_or (R 30 2 ≤ 8 ∧ ∀ i, 0 ≤ i → i < k → 97 ≤ R 32 i ∧ R 32 i ≤ 102)
          refine x_iload_n d_P_text_54 2 rfl rfl ?_
          refine x_if_ne (tgt := 64) d_P_text_55 rfl (by omega) (fun c55 => ?_) (fun c55 => ?_)
          · have hok1 : ok = 1 := by omega
            refine x_aload_n d_P_text_64 0 rfl rfl ?_
            refine x_iload_n d_P_text_65 1 rfl rfl ?_
            refine x_puti 30 15 15 fp_P_135 tk_23_15 (hM.at 0 rfl) rfl rfl d_P_text_66 (fun Q1 hQ1 => ?_)
            refine x_iconst d_P_text_69 ?_
            refine x_istore_n d_P_text_70 3 rfl [some (.ref ((σ 30).1)), some (vi (R 30 2)), some (vi ok), some (vi 0)] rfl rfl (lr rfl) ?_
            have hg : tGood (R 30 2) (R 32) := by
              have q := zc_eq1.mp (hi1.symm.trans (by omega : ok = 1))
              exact ⟨q.1, fun i a b => q.2 i a (by omega)⟩
            subst hok1
            have hl2 : ∀ (m : Nat) (k : Int) (R2 : xR), (16 - k).toNat = m → (0 ≤ k ∧ k ≤ R 30 2) → (∀ p q, p ≠ 48 → ¬ (p = 30 ∧ (q = 0 ∨ q = 2 ∨ q = 15 ∨ q = 22 ∨ q = 23)) → R2 p q = R p q) → (R2 30 2 = 0) → (R2 30 0 = 0) → (R2 30 15 = R 30 2) → (∀ i, 0 ≤ i → i < k → R2 48 i = R 32 i - 97) → V X m_P_text (2, 0, 0, Zm σ (fun z R1 => (∀ p q, p ≠ 48 → ¬ (p = 30 ∧ (q = 0 ∨ q = 2 ∨ q = 15 ∨ q = 22 ∨ q = 23)) → R1 p q = R p q) ∧ R1 30 2 = 0 ∧ ((tGood (R 30 2) (R 32) ∧ R1 30 0 = 0 ∧ z = R 30 2 ∧ R1 30 15 = R 30 2 ∧ (∀ i, 0 ≤ i → i < R 30 2 → R1 48 i = R 32 i - 97) ∧ R1 30 22 = 0 ∧ R1 30 23 = 0) ∨ (¬ tGood (R 30 2) (R 32) ∧ R1 30 0 = 1 ∧ (∀ q, R1 48 q = R 48 q) ∧ R1 30 15 = R 30 15 ∧ R1 30 22 = R 30 22 ∧ R1 30 23 = R 30 23)))) σ R2 0 0 71 [some (.ref ((σ 30).1)), some (vi (R 30 2)), some (vi 1), some (vi k)] [] := by
              intro m
              induction m using Nat.strongRecOn with
              | _ m ih2 =>
                intro k R2 hm2 hk1 hkp2 h02 h00 h15 hcp
                refine x_iload_n d_P_text_71 3 rfl rfl ?_
                refine x_iload_n d_P_text_72 1 rfl rfl ?_
                refine x_icmp_ge (tgt := 97) d_P_text_73 rfl (by omega) (by omega) (fun c73 => ?_) (fun c73 => ?_)
                · refine x_aload_n d_P_text_97 0 rfl rfl ?_
                  refine x_cvv 30 (As := []) (c_P_forget (R := R2) hM) cs_P_96 hthis rfl rfl (lr rfl) d_P_text_98 (lr rfl) ⟨lr rfl, lr rfl⟩ (fun Q1 hQ1 => ?_)
                  refine x_iload_n d_P_text_101 1 rfl rfl ?_
                  exact x_iret d_P_text_102 rfl (lr rfl) (lr rfl) (⟨_, rfl, rfl, fun p q a b => by rw [hQ1, xr_up rfl (by omega), xr_up rfl (by omega)]; exact hkp2 p q a b, by rw [hQ1, xr_d rfl (by decide), xr_d rfl (by decide)]; exact h02, Or.inl ⟨hg, by rw [hQ1, xr_d rfl (by decide), xr_d rfl (by decide)]; exact h00, rfl, by rw [hQ1, xr_d rfl (by decide), xr_d rfl (by decide)]; exact h15, fun i a b => by rw [hQ1, xr_o rfl (by decide), xr_o rfl (by decide)]; exact hcp i a (by omega), by rw [hQ1, xr_d rfl (by decide), xr_s rfl], by rw [hQ1, xr_s rfl]⟩⟩)
                · have hc9 := hg.2 k (by omega) (by omega)
                  refine x_aload_n d_P_text_76 0 rfl rfl ?_
                  refine x_getc 30 17 48 48 fl_P_42 tk_23_17 (hM.at 0 rfl) rfl rfl d_P_text_77 ?_
                  refine x_iload_n d_P_text_80 3 rfl rfl ?_
                  refine x_aload_n d_P_text_81 0 rfl rfl ?_
                  refine x_getc 30 1 32 32 fl_P_7 tk_23_1 (hM.at 0 rfl) rfl rfl d_P_text_82 ?_
                  refine x_iload_n d_P_text_85 3 rfl rfl ?_
                  refine x_cald 32 (R 32 k) (hM.at 1 rfl) rfl ⟨by decide, rfl, by decide⟩ rfl (by omega) (hkp2 32 k (by decide) (by omega)) d_P_text_86 ?_
                  refine x_bipush d_P_text_87 rfl ?_
                  refine x_isub d_P_text_89 ?_
                  refine x_iast 48 (hM.at 11 rfl) rfl ⟨by decide, rfl, by decide⟩ rfl (by omega) d_P_text_90 (fun Q2 hQ2 => ?_)
                  refine x_iinc d_P_text_91 rfl [some (.ref ((σ 30).1)), some (vi (R 30 2)), some (vi 1), some (vi (k + 1))] rfl rfl (lr rfl) ?_
                  refine x_goto (tgt := 71) d_P_text_94 rfl ?_
                  exact ih2 _ (by omega) (k + 1) Q2 rfl (by omega) (fun p q a b => (xr_o hQ2 a).trans (hkp2 p q a b)) ((xr_o hQ2 (by decide)).trans h02) ((xr_o hQ2 (by decide)).trans h00) ((xr_o hQ2 (by decide)).trans h15) (fun i a b => by
                    by_cases e : i = k
                    · rw [e, xr_s hQ2]
                    · rw [xr_d hQ2 e]; exact hcp i a (by omega))
            exact hl2 _ 0 Q1 rfl (by omega) (fun p q a b => by rw [xr_up hQ1 (by omega)]; exact hkp p q (by omega)) ((xr_d hQ1 (by decide)).trans h02) ((xr_d hQ1 (by decide)).trans h00) (xr_s hQ1) (fun i a b => by omega)
          · have hno : ¬ tGood (R 30 2) (R 32) := fun q => zc_eq0.mp (hi1.symm.trans (by omega : ok = 0)) ⟨q.1, fun i a b => q.2 i a (by omega)⟩
            refine x_aload_n d_P_text_58 0 rfl rfl ?_
            refine x_iconst d_P_text_59 ?_
            refine x_cvm 30 (As := [vi 1]) (c_P_fails (R := R1) hM 1) cs_P_86 hthis rfl rfl (lr rfl) d_P_text_60 (lr rfl) ⟨lr rfl, lr rfl⟩ (fun z2 Q3 hQ3 => ?_)
            exact x_iret d_P_text_63 rfl (lr rfl) (lr rfl) (⟨_, rfl, rfl, fun p q a b => by rw [hQ3.2, xr_up rfl (by omega)]; exact hkp p q (by omega), by rw [hQ3.2, xr_d rfl (by decide)]; exact h02, Or.inr ⟨hno, by rw [hQ3.2, xr_s rfl], fun q => by rw [hQ3.2, xr_o rfl (by decide)]; exact hkp 48 q (by omega), by rw [hQ3.2, xr_d rfl (by decide)]; exact hkp 30 15 (by decide), by rw [hQ3.2, xr_d rfl (by decide)]; exact hkp 30 22 (by decide), by rw [hQ3.2, xr_d rfl (by decide)]; exact hkp 30 23 (by decide)⟩⟩)
        · have hok := zc_or (R 30 2 ≤ 8 ∧ ∀ i, 0 ≤ i → i < k → 97 ≤ R 32 i ∧ R 32 i ≤ 102)
          refine x_iload_n d_P_text_34 2 rfl rfl ?_
          refine x_if_eq (tgt := 54) d_P_text_35 rfl (by omega) (fun c35 => ?_) (fun c35 => ?_)
          · have hok := zc_or (R 30 2 ≤ 8 ∧ ∀ i, 0 ≤ i → i < k → 97 ≤ R 32 i ∧ R 32 i ≤ 102)
            refine x_iload_n d_P_text_54 2 rfl rfl ?_
            refine x_if_ne (tgt := 64) d_P_text_55 rfl (by omega) (fun c55 => ?_) (fun c55 => ?_)
            · have hok1 : ok = 1 := by omega
              refine x_aload_n d_P_text_64 0 rfl rfl ?_
              refine x_iload_n d_P_text_65 1 rfl rfl ?_
              refine x_puti 30 15 15 fp_P_135 tk_23_15 (hM.at 0 rfl) rfl rfl d_P_text_66 (fun Q4 hQ4 => ?_)
              refine x_iconst d_P_text_69 ?_
              refine x_istore_n d_P_text_70 3 rfl [some (.ref ((σ 30).1)), some (vi (R 30 2)), some (vi ok), some (vi 0)] rfl rfl (lr rfl) ?_
              have hg : tGood (R 30 2) (R 32) := by
                have q := zc_eq1.mp (hi1.symm.trans (by omega : ok = 1))
                exact ⟨q.1, fun i a b => q.2 i a (by omega)⟩
              subst hok1
              have hl2 : ∀ (m : Nat) (k : Int) (R2 : xR), (16 - k).toNat = m → (0 ≤ k ∧ k ≤ R 30 2) → (∀ p q, p ≠ 48 → ¬ (p = 30 ∧ (q = 0 ∨ q = 2 ∨ q = 15 ∨ q = 22 ∨ q = 23)) → R2 p q = R p q) → (R2 30 2 = 0) → (R2 30 0 = 0) → (R2 30 15 = R 30 2) → (∀ i, 0 ≤ i → i < k → R2 48 i = R 32 i - 97) → V X m_P_text (2, 0, 0, Zm σ (fun z R1 => (∀ p q, p ≠ 48 → ¬ (p = 30 ∧ (q = 0 ∨ q = 2 ∨ q = 15 ∨ q = 22 ∨ q = 23)) → R1 p q = R p q) ∧ R1 30 2 = 0 ∧ ((tGood (R 30 2) (R 32) ∧ R1 30 0 = 0 ∧ z = R 30 2 ∧ R1 30 15 = R 30 2 ∧ (∀ i, 0 ≤ i → i < R 30 2 → R1 48 i = R 32 i - 97) ∧ R1 30 22 = 0 ∧ R1 30 23 = 0) ∨ (¬ tGood (R 30 2) (R 32) ∧ R1 30 0 = 1 ∧ (∀ q, R1 48 q = R 48 q) ∧ R1 30 15 = R 30 15 ∧ R1 30 22 = R 30 22 ∧ R1 30 23 = R 30 23)))) σ R2 0 0 71 [some (.ref ((σ 30).1)), some (vi (R 30 2)), some (vi 1), some (vi k)] [] := by
                intro m
                induction m using Nat.strongRecOn with
                | _ m ih2 =>
                  intro k R2 hm2 hk1 hkp2 h02 h00 h15 hcp
                  refine x_iload_n d_P_text_71 3 rfl rfl ?_
                  refine x_iload_n d_P_text_72 1 rfl rfl ?_
                  refine x_icmp_ge (tgt := 97) d_P_text_73 rfl (by omega) (by omega) (fun c73 => ?_) (fun c73 => ?_)
                  · refine x_aload_n d_P_text_97 0 rfl rfl ?_
                    refine x_cvv 30 (As := []) (c_P_forget (R := R2) hM) cs_P_96 hthis rfl rfl (lr rfl) d_P_text_98 (lr rfl) ⟨lr rfl, lr rfl⟩ (fun Q1 hQ1 => ?_)
                    refine x_iload_n d_P_text_101 1 rfl rfl ?_
                    exact x_iret d_P_text_102 rfl (lr rfl) (lr rfl) (⟨_, rfl, rfl, fun p q a b => by rw [hQ1, xr_up rfl (by omega), xr_up rfl (by omega)]; exact hkp2 p q a b, by rw [hQ1, xr_d rfl (by decide), xr_d rfl (by decide)]; exact h02, Or.inl ⟨hg, by rw [hQ1, xr_d rfl (by decide), xr_d rfl (by decide)]; exact h00, rfl, by rw [hQ1, xr_d rfl (by decide), xr_d rfl (by decide)]; exact h15, fun i a b => by rw [hQ1, xr_o rfl (by decide), xr_o rfl (by decide)]; exact hcp i a (by omega), by rw [hQ1, xr_d rfl (by decide), xr_s rfl], by rw [hQ1, xr_s rfl]⟩⟩)
                  · have hc9 := hg.2 k (by omega) (by omega)
                    refine x_aload_n d_P_text_76 0 rfl rfl ?_
                    refine x_getc 30 17 48 48 fl_P_42 tk_23_17 (hM.at 0 rfl) rfl rfl d_P_text_77 ?_
                    refine x_iload_n d_P_text_80 3 rfl rfl ?_
                    refine x_aload_n d_P_text_81 0 rfl rfl ?_
                    refine x_getc 30 1 32 32 fl_P_7 tk_23_1 (hM.at 0 rfl) rfl rfl d_P_text_82 ?_
                    refine x_iload_n d_P_text_85 3 rfl rfl ?_
                    refine x_cald 32 (R 32 k) (hM.at 1 rfl) rfl ⟨by decide, rfl, by decide⟩ rfl (by omega) (hkp2 32 k (by decide) (by omega)) d_P_text_86 ?_
                    refine x_bipush d_P_text_87 rfl ?_
                    refine x_isub d_P_text_89 ?_
                    refine x_iast 48 (hM.at 11 rfl) rfl ⟨by decide, rfl, by decide⟩ rfl (by omega) d_P_text_90 (fun Q2 hQ2 => ?_)
                    refine x_iinc d_P_text_91 rfl [some (.ref ((σ 30).1)), some (vi (R 30 2)), some (vi 1), some (vi (k + 1))] rfl rfl (lr rfl) ?_
                    refine x_goto (tgt := 71) d_P_text_94 rfl ?_
                    exact ih2 _ (by omega) (k + 1) Q2 rfl (by omega) (fun p q a b => (xr_o hQ2 a).trans (hkp2 p q a b)) ((xr_o hQ2 (by decide)).trans h02) ((xr_o hQ2 (by decide)).trans h00) ((xr_o hQ2 (by decide)).trans h15) (fun i a b => by
                      by_cases e : i = k
                      · rw [e, xr_s hQ2]
                      · rw [xr_d hQ2 e]; exact hcp i a (by omega))
              exact hl2 _ 0 Q4 rfl (by omega) (fun p q a b => by rw [xr_up hQ4 (by omega)]; exact hkp p q (by omega)) ((xr_d hQ4 (by decide)).trans h02) ((xr_d hQ4 (by decide)).trans h00) (xr_s hQ4) (fun i a b => by omega)
            · have hno : ¬ tGood (R 30 2) (R 32) := fun q => zc_eq0.mp (hi1.symm.trans (by omega : ok = 0)) ⟨q.1, fun i a b => q.2 i a (by omega)⟩
              refine x_aload_n d_P_text_58 0 rfl rfl ?_
              refine x_iconst d_P_text_59 ?_
              refine x_cvm 30 (As := [vi 1]) (c_P_fails (R := R1) hM 1) cs_P_86 hthis rfl rfl (lr rfl) d_P_text_60 (lr rfl) ⟨lr rfl, lr rfl⟩ (fun z5 Q6 hQ6 => ?_)
              exact x_iret d_P_text_63 rfl (lr rfl) (lr rfl) (⟨_, rfl, rfl, fun p q a b => by rw [hQ6.2, xr_up rfl (by omega)]; exact hkp p q (by omega), by rw [hQ6.2, xr_d rfl (by decide)]; exact h02, Or.inr ⟨hno, by rw [hQ6.2, xr_s rfl], fun q => by rw [hQ6.2, xr_o rfl (by decide)]; exact hkp 48 q (by omega), by rw [hQ6.2, xr_d rfl (by decide)]; exact hkp 30 15 (by decide), by rw [hQ6.2, xr_d rfl (by decide)]; exact hkp 30 22 (by decide), by rw [hQ6.2, xr_d rfl (by decide)]; exact hkp 30 23 (by decide)⟩⟩)
          · refine x_aload_n d_P_text_38 0 rfl rfl ?_
            refine x_getc 30 1 32 32 fl_P_7 tk_23_1 (hM.at 0 rfl) rfl rfl d_P_text_39 ?_
            refine x_iload_n d_P_text_42 3 rfl rfl ?_
            refine x_cald 32 (R 32 k) (hM.at 1 rfl) rfl ⟨by decide, rfl, by decide⟩ rfl (by omega) (hkp 32 k (by omega)) d_P_text_43 ?_
            have hc9 := hch k (by omega) (by omega)
            refine x_csi  (As := [vi (R 32 k)]) (c_P_isLetter (R := R1) (R 32 k) (by omega)) cs_P_83 rfl rfl (lr rfl) d_P_text_44 (lr rfl) ⟨lr rfl, lr rfl⟩ ?_
            refine x_istore_n d_P_text_47 2 rfl [some (.ref ((σ 30).1)), some (vi (R 30 2)), some (vi (zb (97 ≤ R 32 k ∧ R 32 k ≤ 102))), some (vi k)] rfl rfl (lr rfl) ?_
            refine x_iinc d_P_text_48 rfl [some (.ref ((σ 30).1)), some (vi (R 30 2)), some (vi (zb (97 ≤ R 32 k ∧ R 32 k ≤ 102))), some (vi (k + 1))] rfl rfl (lr rfl) ?_
            refine x_goto (tgt := 29) d_P_text_51 rfl ?_
            have hcs := zb_cs (97 ≤ R 32 k ∧ R 32 k ≤ 102)
            exact ih _ (by omega) (k + 1) (zb (97 ≤ R 32 k ∧ R 32 k ≤ 102)) rfl (by omega) (by
              have q := zc_eq1.mp (hi1.symm.trans (by have := zc_or (R 30 2 ≤ 8 ∧ ∀ i, 0 ≤ i → i < k → 97 ≤ R 32 i ∧ R 32 i ≤ 102); omega : ok = 1))
              rcases hcs with c1 | c1
              · rw [c1.2]; exact (zc_t ⟨q.1, fun i a b => by by_cases e : i = k; (rw [e]; exact c1.1); exact q.2 i a (by omega)⟩).symm
              · rw [c1.2]; exact (zc_f (fun z => c1.1 (z.2 k (by omega) (by omega)))).symm)
    exact hl _ 0 0 rfl (by omega) ((zc_f (fun q => by have := q.1; omega)).symm)
  · refine x_iconst d_P_text_21 ?_
    refine x_goto (tgt := 26) d_P_text_22 rfl ?_
    refine x_istore_n d_P_text_26 2 rfl [some (.ref ((σ 30).1)), some (vi (R 30 2)), some (vi 1), none] rfl rfl (lr rfl) ?_
    refine x_iconst d_P_text_27 ?_
    refine x_istore_n d_P_text_28 3 rfl [some (.ref ((σ 30).1)), some (vi (R 30 2)), some (vi 1), some (vi 0)] rfl rfl (lr rfl) ?_
    have hkp : ∀ p q, ¬ (p = 30 ∧ (q = 0 ∨ q = 2)) → Q2 p q = R p q := fun p q a => (xr_up hQ2 (by omega)).trans (xr_up hQ1 (by omega))
    have h02 : Q2 30 2 = 0 := xr_s hQ2
    have h00 : Q2 30 0 = 0 := (xr_d hQ2 (by decide)).trans (xr_s hQ1)
    generalize Q2 = R1 at hkp h02 h00 ⊢
    have hl : ∀ (m : Nat) (k : Int) (ok : Int), (16 - k).toNat = m → (0 ≤ k ∧ (k ≤ R 30 2 ∨ k = 0)) → (ok = zc (R 30 2 ≤ 8 ∧ ∀ i, 0 ≤ i → i < k → 97 ≤ R 32 i ∧ R 32 i ≤ 102)) → V X m_P_text (2, 0, 0, Zm σ (fun z R1 => (∀ p q, p ≠ 48 → ¬ (p = 30 ∧ (q = 0 ∨ q = 2 ∨ q = 15 ∨ q = 22 ∨ q = 23)) → R1 p q = R p q) ∧ R1 30 2 = 0 ∧ ((tGood (R 30 2) (R 32) ∧ R1 30 0 = 0 ∧ z = R 30 2 ∧ R1 30 15 = R 30 2 ∧ (∀ i, 0 ≤ i → i < R 30 2 → R1 48 i = R 32 i - 97) ∧ R1 30 22 = 0 ∧ R1 30 23 = 0) ∨ (¬ tGood (R 30 2) (R 32) ∧ R1 30 0 = 1 ∧ (∀ q, R1 48 q = R 48 q) ∧ R1 30 15 = R 30 15 ∧ R1 30 22 = R 30 22 ∧ R1 30 23 = R 30 23)))) σ R1 0 0 29 [some (.ref ((σ 30).1)), some (vi (R 30 2)), some (vi ok), some (vi k)] [] := by
      intro m
      induction m using Nat.strongRecOn with
      | _ m ih =>
        intro k ok hm hk1 hi1
        refine x_iload_n d_P_text_29 3 rfl rfl ?_
        refine x_iload_n d_P_text_30 1 rfl rfl ?_
        refine x_icmp_ge (tgt := 54) d_P_text_31 rfl (by omega) (by omega) (fun c31 => ?_) (fun c31 => ?_)
        · have hok := zc_or (R 30 2 ≤ 8 ∧ ∀ i, 0 ≤ i → i < k → 97 ≤ R 32 i ∧ R 32 i ≤ 102)
          refine x_iload_n d_P_text_54 2 rfl rfl ?_
          refine x_if_ne (tgt := 64) d_P_text_55 rfl (by omega) (fun c55 => ?_) (fun c55 => ?_)
          · have hok1 : ok = 1 := by omega
            refine x_aload_n d_P_text_64 0 rfl rfl ?_
            refine x_iload_n d_P_text_65 1 rfl rfl ?_
            refine x_puti 30 15 15 fp_P_135 tk_23_15 (hM.at 0 rfl) rfl rfl d_P_text_66 (fun Q1 hQ1 => ?_)
            refine x_iconst d_P_text_69 ?_
            refine x_istore_n d_P_text_70 3 rfl [some (.ref ((σ 30).1)), some (vi (R 30 2)), some (vi ok), some (vi 0)] rfl rfl (lr rfl) ?_
            have hg : tGood (R 30 2) (R 32) := by
              have q := zc_eq1.mp (hi1.symm.trans (by omega : ok = 1))
              exact ⟨q.1, fun i a b => q.2 i a (by omega)⟩
            subst hok1
            have hl2 : ∀ (m : Nat) (k : Int) (R2 : xR), (16 - k).toNat = m → (0 ≤ k ∧ k ≤ R 30 2) → (∀ p q, p ≠ 48 → ¬ (p = 30 ∧ (q = 0 ∨ q = 2 ∨ q = 15 ∨ q = 22 ∨ q = 23)) → R2 p q = R p q) → (R2 30 2 = 0) → (R2 30 0 = 0) → (R2 30 15 = R 30 2) → (∀ i, 0 ≤ i → i < k → R2 48 i = R 32 i - 97) → V X m_P_text (2, 0, 0, Zm σ (fun z R1 => (∀ p q, p ≠ 48 → ¬ (p = 30 ∧ (q = 0 ∨ q = 2 ∨ q = 15 ∨ q = 22 ∨ q = 23)) → R1 p q = R p q) ∧ R1 30 2 = 0 ∧ ((tGood (R 30 2) (R 32) ∧ R1 30 0 = 0 ∧ z = R 30 2 ∧ R1 30 15 = R 30 2 ∧ (∀ i, 0 ≤ i → i < R 30 2 → R1 48 i = R 32 i - 97) ∧ R1 30 22 = 0 ∧ R1 30 23 = 0) ∨ (¬ tGood (R 30 2) (R 32) ∧ R1 30 0 = 1 ∧ (∀ q, R1 48 q = R 48 q) ∧ R1 30 15 = R 30 15 ∧ R1 30 22 = R 30 22 ∧ R1 30 23 = R 30 23)))) σ R2 0 0 71 [some (.ref ((σ 30).1)), some (vi (R 30 2)), some (vi 1), some (vi k)] [] := by
              intro m
              induction m using Nat.strongRecOn with
              | _ m ih2 =>
                intro k R2 hm2 hk1 hkp2 h02 h00 h15 hcp
                refine x_iload_n d_P_text_71 3 rfl rfl ?_
                refine x_iload_n d_P_text_72 1 rfl rfl ?_
                refine x_icmp_ge (tgt := 97) d_P_text_73 rfl (by omega) (by omega) (fun c73 => ?_) (fun c73 => ?_)
                · refine x_aload_n d_P_text_97 0 rfl rfl ?_
                  refine x_cvv 30 (As := []) (c_P_forget (R := R2) hM) cs_P_96 hthis rfl rfl (lr rfl) d_P_text_98 (lr rfl) ⟨lr rfl, lr rfl⟩ (fun Q1 hQ1 => ?_)
                  refine x_iload_n d_P_text_101 1 rfl rfl ?_
                  exact x_iret d_P_text_102 rfl (lr rfl) (lr rfl) (⟨_, rfl, rfl, fun p q a b => by rw [hQ1, xr_up rfl (by omega), xr_up rfl (by omega)]; exact hkp2 p q a b, by rw [hQ1, xr_d rfl (by decide), xr_d rfl (by decide)]; exact h02, Or.inl ⟨hg, by rw [hQ1, xr_d rfl (by decide), xr_d rfl (by decide)]; exact h00, rfl, by rw [hQ1, xr_d rfl (by decide), xr_d rfl (by decide)]; exact h15, fun i a b => by rw [hQ1, xr_o rfl (by decide), xr_o rfl (by decide)]; exact hcp i a (by omega), by rw [hQ1, xr_d rfl (by decide), xr_s rfl], by rw [hQ1, xr_s rfl]⟩⟩)
                · have hc9 := hg.2 k (by omega) (by omega)
                  refine x_aload_n d_P_text_76 0 rfl rfl ?_
                  refine x_getc 30 17 48 48 fl_P_42 tk_23_17 (hM.at 0 rfl) rfl rfl d_P_text_77 ?_
                  refine x_iload_n d_P_text_80 3 rfl rfl ?_
                  refine x_aload_n d_P_text_81 0 rfl rfl ?_
                  refine x_getc 30 1 32 32 fl_P_7 tk_23_1 (hM.at 0 rfl) rfl rfl d_P_text_82 ?_
                  refine x_iload_n d_P_text_85 3 rfl rfl ?_
                  refine x_cald 32 (R 32 k) (hM.at 1 rfl) rfl ⟨by decide, rfl, by decide⟩ rfl (by omega) (hkp2 32 k (by decide) (by omega)) d_P_text_86 ?_
                  refine x_bipush d_P_text_87 rfl ?_
                  refine x_isub d_P_text_89 ?_
                  refine x_iast 48 (hM.at 11 rfl) rfl ⟨by decide, rfl, by decide⟩ rfl (by omega) d_P_text_90 (fun Q2 hQ2 => ?_)
                  refine x_iinc d_P_text_91 rfl [some (.ref ((σ 30).1)), some (vi (R 30 2)), some (vi 1), some (vi (k + 1))] rfl rfl (lr rfl) ?_
                  refine x_goto (tgt := 71) d_P_text_94 rfl ?_
                  exact ih2 _ (by omega) (k + 1) Q2 rfl (by omega) (fun p q a b => (xr_o hQ2 a).trans (hkp2 p q a b)) ((xr_o hQ2 (by decide)).trans h02) ((xr_o hQ2 (by decide)).trans h00) ((xr_o hQ2 (by decide)).trans h15) (fun i a b => by
                    by_cases e : i = k
                    · rw [e, xr_s hQ2]
                    · rw [xr_d hQ2 e]; exact hcp i a (by omega))
            exact hl2 _ 0 Q1 rfl (by omega) (fun p q a b => by rw [xr_up hQ1 (by omega)]; exact hkp p q (by omega)) ((xr_d hQ1 (by decide)).trans h02) ((xr_d hQ1 (by decide)).trans h00) (xr_s hQ1) (fun i a b => by omega)
          · have hno : ¬ tGood (R 30 2) (R 32) := fun q => zc_eq0.mp (hi1.symm.trans (by omega : ok = 0)) ⟨q.1, fun i a b => q.2 i a (by omega)⟩
            refine x_aload_n d_P_text_58 0 rfl rfl ?_
            refine x_iconst d_P_text_59 ?_
            refine x_cvm 30 (As := [vi 1]) (c_P_fails (R := R1) hM 1) cs_P_86 hthis rfl rfl (lr rfl) d_P_text_60 (lr rfl) ⟨lr rfl, lr rfl⟩ (fun z2 Q3 hQ3 => ?_)
            exact x_iret d_P_text_63 rfl (lr rfl) (lr rfl) (⟨_, rfl, rfl, fun p q a b => by rw [hQ3.2, xr_up rfl (by omega)]; exact hkp p q (by omega), by rw [hQ3.2, xr_d rfl (by decide)]; exact h02, Or.inr ⟨hno, by rw [hQ3.2, xr_s rfl], fun q => by rw [hQ3.2, xr_o rfl (by decide)]; exact hkp 48 q (by omega), by rw [hQ3.2, xr_d rfl (by decide)]; exact hkp 30 15 (by decide), by rw [hQ3.2, xr_d rfl (by decide)]; exact hkp 30 22 (by decide), by rw [hQ3.2, xr_d rfl (by decide)]; exact hkp 30 23 (by decide)⟩⟩)
        · have hok := zc_or (R 30 2 ≤ 8 ∧ ∀ i, 0 ≤ i → i < k → 97 ≤ R 32 i ∧ R 32 i ≤ 102)
          refine x_iload_n d_P_text_34 2 rfl rfl ?_
          refine x_if_eq (tgt := 54) d_P_text_35 rfl (by omega) (fun c35 => ?_) (fun c35 => ?_)
          · have hok := zc_or (R 30 2 ≤ 8 ∧ ∀ i, 0 ≤ i → i < k → 97 ≤ R 32 i ∧ R 32 i ≤ 102)
            refine x_iload_n d_P_text_54 2 rfl rfl ?_
            refine x_if_ne (tgt := 64) d_P_text_55 rfl (by omega) (fun c55 => ?_) (fun c55 => ?_)
            · have hok1 : ok = 1 := by omega
              refine x_aload_n d_P_text_64 0 rfl rfl ?_
              refine x_iload_n d_P_text_65 1 rfl rfl ?_
              refine x_puti 30 15 15 fp_P_135 tk_23_15 (hM.at 0 rfl) rfl rfl d_P_text_66 (fun Q4 hQ4 => ?_)
              refine x_iconst d_P_text_69 ?_
              refine x_istore_n d_P_text_70 3 rfl [some (.ref ((σ 30).1)), some (vi (R 30 2)), some (vi ok), some (vi 0)] rfl rfl (lr rfl) ?_
              have hg : tGood (R 30 2) (R 32) := by
                have q := zc_eq1.mp (hi1.symm.trans (by omega : ok = 1))
                exact ⟨q.1, fun i a b => q.2 i a (by omega)⟩
              subst hok1
              have hl2 : ∀ (m : Nat) (k : Int) (R2 : xR), (16 - k).toNat = m → (0 ≤ k ∧ k ≤ R 30 2) → (∀ p q, p ≠ 48 → ¬ (p = 30 ∧ (q = 0 ∨ q = 2 ∨ q = 15 ∨ q = 22 ∨ q = 23)) → R2 p q = R p q) → (R2 30 2 = 0) → (R2 30 0 = 0) → (R2 30 15 = R 30 2) → (∀ i, 0 ≤ i → i < k → R2 48 i = R 32 i - 97) → V X m_P_text (2, 0, 0, Zm σ (fun z R1 => (∀ p q, p ≠ 48 → ¬ (p = 30 ∧ (q = 0 ∨ q = 2 ∨ q = 15 ∨ q = 22 ∨ q = 23)) → R1 p q = R p q) ∧ R1 30 2 = 0 ∧ ((tGood (R 30 2) (R 32) ∧ R1 30 0 = 0 ∧ z = R 30 2 ∧ R1 30 15 = R 30 2 ∧ (∀ i, 0 ≤ i → i < R 30 2 → R1 48 i = R 32 i - 97) ∧ R1 30 22 = 0 ∧ R1 30 23 = 0) ∨ (¬ tGood (R 30 2) (R 32) ∧ R1 30 0 = 1 ∧ (∀ q, R1 48 q = R 48 q) ∧ R1 30 15 = R 30 15 ∧ R1 30 22 = R 30 22 ∧ R1 30 23 = R 30 23)))) σ R2 0 0 71 [some (.ref ((σ 30).1)), some (vi (R 30 2)), some (vi 1), some (vi k)] [] := by
                intro m
                induction m using Nat.strongRecOn with
                | _ m ih2 =>
                  intro k R2 hm2 hk1 hkp2 h02 h00 h15 hcp
                  refine x_iload_n d_P_text_71 3 rfl rfl ?_
                  refine x_iload_n d_P_text_72 1 rfl rfl ?_
                  refine x_icmp_ge (tgt := 97) d_P_text_73 rfl (by omega) (by omega) (fun c73 => ?_) (fun c73 => ?_)
                  · refine x_aload_n d_P_text_97 0 rfl rfl ?_
                    refine x_cvv 30 (As := []) (c_P_forget (R := R2) hM) cs_P_96 hthis rfl rfl (lr rfl) d_P_text_98 (lr rfl) ⟨lr rfl, lr rfl⟩ (fun Q1 hQ1 => ?_)
                    refine x_iload_n d_P_text_101 1 rfl rfl ?_
                    exact x_iret d_P_text_102 rfl (lr rfl) (lr rfl) (⟨_, rfl, rfl, fun p q a b => by rw [hQ1, xr_up rfl (by omega), xr_up rfl (by omega)]; exact hkp2 p q a b, by rw [hQ1, xr_d rfl (by decide), xr_d rfl (by decide)]; exact h02, Or.inl ⟨hg, by rw [hQ1, xr_d rfl (by decide), xr_d rfl (by decide)]; exact h00, rfl, by rw [hQ1, xr_d rfl (by decide), xr_d rfl (by decide)]; exact h15, fun i a b => by rw [hQ1, xr_o rfl (by decide), xr_o rfl (by decide)]; exact hcp i a (by omega), by rw [hQ1, xr_d rfl (by decide), xr_s rfl], by rw [hQ1, xr_s rfl]⟩⟩)
                  · have hc9 := hg.2 k (by omega) (by omega)
                    refine x_aload_n d_P_text_76 0 rfl rfl ?_
                    refine x_getc 30 17 48 48 fl_P_42 tk_23_17 (hM.at 0 rfl) rfl rfl d_P_text_77 ?_
                    refine x_iload_n d_P_text_80 3 rfl rfl ?_
                    refine x_aload_n d_P_text_81 0 rfl rfl ?_
                    refine x_getc 30 1 32 32 fl_P_7 tk_23_1 (hM.at 0 rfl) rfl rfl d_P_text_82 ?_
                    refine x_iload_n d_P_text_85 3 rfl rfl ?_
                    refine x_cald 32 (R 32 k) (hM.at 1 rfl) rfl ⟨by decide, rfl, by decide⟩ rfl (by omega) (hkp2 32 k (by decide) (by omega)) d_P_text_86 ?_
                    refine x_bipush d_P_text_87 rfl ?_
                    refine x_isub d_P_text_89 ?_
                    refine x_iast 48 (hM.at 11 rfl) rfl ⟨by decide, rfl, by decide⟩ rfl (by omega) d_P_text_90 (fun Q2 hQ2 => ?_)
                    refine x_iinc d_P_text_91 rfl [some (.ref ((σ 30).1)), some (vi (R 30 2)), some (vi 1), some (vi (k + 1))] rfl rfl (lr rfl) ?_
                    refine x_goto (tgt := 71) d_P_text_94 rfl ?_
                    exact ih2 _ (by omega) (k + 1) Q2 rfl (by omega) (fun p q a b => (xr_o hQ2 a).trans (hkp2 p q a b)) ((xr_o hQ2 (by decide)).trans h02) ((xr_o hQ2 (by decide)).trans h00) ((xr_o hQ2 (by decide)).trans h15) (fun i a b => by
                      by_cases e : i = k
                      · rw [e, xr_s hQ2]
                      · rw [xr_d hQ2 e]; exact hcp i a (by omega))
              exact hl2 _ 0 Q4 rfl (by omega) (fun p q a b => by rw [xr_up hQ4 (by omega)]; exact hkp p q (by omega)) ((xr_d hQ4 (by decide)).trans h02) ((xr_d hQ4 (by decide)).trans h00) (xr_s hQ4) (fun i a b => by omega)
            · have hno : ¬ tGood (R 30 2) (R 32) := fun q => zc_eq0.mp (hi1.symm.trans (by omega : ok = 0)) ⟨q.1, fun i a b => q.2 i a (by omega)⟩
              refine x_aload_n d_P_text_58 0 rfl rfl ?_
              refine x_iconst d_P_text_59 ?_
              refine x_cvm 30 (As := [vi 1]) (c_P_fails (R := R1) hM 1) cs_P_86 hthis rfl rfl (lr rfl) d_P_text_60 (lr rfl) ⟨lr rfl, lr rfl⟩ (fun z5 Q6 hQ6 => ?_)
              exact x_iret d_P_text_63 rfl (lr rfl) (lr rfl) (⟨_, rfl, rfl, fun p q a b => by rw [hQ6.2, xr_up rfl (by omega)]; exact hkp p q (by omega), by rw [hQ6.2, xr_d rfl (by decide)]; exact h02, Or.inr ⟨hno, by rw [hQ6.2, xr_s rfl], fun q => by rw [hQ6.2, xr_o rfl (by decide)]; exact hkp 48 q (by omega), by rw [hQ6.2, xr_d rfl (by decide)]; exact hkp 30 15 (by decide), by rw [hQ6.2, xr_d rfl (by decide)]; exact hkp 30 22 (by decide), by rw [hQ6.2, xr_d rfl (by decide)]; exact hkp 30 23 (by decide)⟩⟩)
          · refine x_aload_n d_P_text_38 0 rfl rfl ?_
            refine x_getc 30 1 32 32 fl_P_7 tk_23_1 (hM.at 0 rfl) rfl rfl d_P_text_39 ?_
            refine x_iload_n d_P_text_42 3 rfl rfl ?_
            refine x_cald 32 (R 32 k) (hM.at 1 rfl) rfl ⟨by decide, rfl, by decide⟩ rfl (by omega) (hkp 32 k (by omega)) d_P_text_43 ?_
            have hc9 := hch k (by omega) (by omega)
            refine x_csi  (As := [vi (R 32 k)]) (c_P_isLetter (R := R1) (R 32 k) (by omega)) cs_P_83 rfl rfl (lr rfl) d_P_text_44 (lr rfl) ⟨lr rfl, lr rfl⟩ ?_
            refine x_istore_n d_P_text_47 2 rfl [some (.ref ((σ 30).1)), some (vi (R 30 2)), some (vi (zb (97 ≤ R 32 k ∧ R 32 k ≤ 102))), some (vi k)] rfl rfl (lr rfl) ?_
            refine x_iinc d_P_text_48 rfl [some (.ref ((σ 30).1)), some (vi (R 30 2)), some (vi (zb (97 ≤ R 32 k ∧ R 32 k ≤ 102))), some (vi (k + 1))] rfl rfl (lr rfl) ?_
            refine x_goto (tgt := 29) d_P_text_51 rfl ?_
            have hcs := zb_cs (97 ≤ R 32 k ∧ R 32 k ≤ 102)
            exact ih _ (by omega) (k + 1) (zb (97 ≤ R 32 k ∧ R 32 k ≤ 102)) rfl (by omega) (by
              have q := zc_eq1.mp (hi1.symm.trans (by have := zc_or (R 30 2 ≤ 8 ∧ ∀ i, 0 ≤ i → i < k → 97 ≤ R 32 i ∧ R 32 i ≤ 102); omega : ok = 1))
              rcases hcs with c1 | c1
              · rw [c1.2]; exact (zc_t ⟨q.1, fun i a b => by by_cases e : i = k; (rw [e]; exact c1.1); exact q.2 i a (by omega)⟩).symm
              · rw [c1.2]; exact (zc_f (fun z => c1.1 (z.2 k (by omega) (by omega)))).symm)
    exact hl _ 0 1 rfl (by omega) ((zc_t ⟨by omega, fun i a b => by omega⟩).symm)
set_option maxHeartbeats 4000000 in
set_option maxRecDepth 100000 in
theorem c_P_cost {σ : xS} {R : xR} (hM : xsh σ mshape) (l out c : Int) (hl : -2147483648 ≤ l ∧ l < 2147483648) (ho : out = 0 ∨ out = 1) (hc : -2147483648 ≤ c ∧ c < 2147483648) : Ct m_P_cost 1 0 0 [.ref (σ 30).1, vi l, vi out, vi c] σ R (Zm σ (fun z R1 => ((l < 0 ∨ 5 < l ∨ c < 1 ∨ 3 < c) ∧ z = 0 ∧ R1 = xup R 30 0 0) ∨ (¬ (l < 0 ∨ 5 < l ∨ c < 1 ∨ 3 < c) ∧ z = 1 ∧ R1 = xup (xup R 30 0 0) (if out = 0 then 51 else 52) l c))) := by
  refine Ct.of [some (.ref ((σ 30).1)), some (vi l), some (vi out), some (vi c)] rfl (by decide +kernel) (lr rfl) (fun X => ?_)
  refine x_aload_n d_P_cost_0 0 rfl rfl ?_
  refine x_iconst d_P_cost_1 ?_
  refine x_puti 30 0 0 fp_P_66 tk_23_0 (hM.at 0 rfl) rfl rfl d_P_cost_2 (fun Q1 hQ1 => ?_)
  refine x_iload_n d_P_cost_5 1 rfl rfl ?_
  refine x_if_lt (tgt := 24) d_P_cost_6 rfl (by omega) (fun c6 => ?_) (fun c6 => ?_)
  · refine x_iconst d_P_cost_24 ?_
    exact x_zret d_P_cost_25 rfl (narz (by omega)) (lr rfl) (lr rfl) (⟨_, rfl, rfl, Or.inl ⟨by omega, rfl, hQ1⟩⟩)
  · refine x_iload_n d_P_cost_9 1 rfl rfl ?_
    refine x_iconst d_P_cost_10 ?_
    refine x_icmp_gt (tgt := 24) d_P_cost_11 rfl (by omega) (by omega) (fun c11 => ?_) (fun c11 => ?_)
    · refine x_iconst d_P_cost_24 ?_
      exact x_zret d_P_cost_25 rfl (narz (by omega)) (lr rfl) (lr rfl) (⟨_, rfl, rfl, Or.inl ⟨by omega, rfl, hQ1⟩⟩)
    · refine x_iload_n d_P_cost_14 3 rfl rfl ?_
      refine x_iconst d_P_cost_15 ?_
      refine x_icmp_lt (tgt := 24) d_P_cost_16 rfl (by omega) (by omega) (fun c16 => ?_) (fun c16 => ?_)
      · refine x_iconst d_P_cost_24 ?_
        exact x_zret d_P_cost_25 rfl (narz (by omega)) (lr rfl) (lr rfl) (⟨_, rfl, rfl, Or.inl ⟨by omega, rfl, hQ1⟩⟩)
      · refine x_iload_n d_P_cost_19 3 rfl rfl ?_
        refine x_iconst d_P_cost_20 ?_
        refine x_icmp_le (tgt := 26) d_P_cost_21 rfl (by omega) (by omega) (fun c21 => ?_) (fun c21 => ?_)
        · refine x_iload_n d_P_cost_26 2 rfl rfl ?_
          refine x_if_eq (tgt := 40) d_P_cost_27 rfl (by omega) (fun c27 => ?_) (fun c27 => ?_)
          · refine x_aload_n d_P_cost_40 0 rfl rfl ?_
            refine x_getc 30 20 51 51 fl_P_51 tk_23_20 (hM.at 0 rfl) rfl rfl d_P_cost_41 ?_
            refine x_iload_n d_P_cost_44 1 rfl rfl ?_
            refine x_iload_n d_P_cost_45 3 rfl rfl ?_
            refine x_iast 51 (hM.at 14 rfl) rfl ⟨by decide, rfl, by decide⟩ rfl (by omega) d_P_cost_46 (fun Q2 hQ2 => ?_)
            refine x_iconst d_P_cost_47 ?_
            exact x_zret d_P_cost_48 rfl (narz (by omega)) (lr rfl) (lr rfl) (⟨_, rfl, rfl, Or.inr ⟨by omega, rfl, by rw [if_pos (by omega), ← hQ1]; exact hQ2⟩⟩)
          · refine x_aload_n d_P_cost_30 0 rfl rfl ?_
            refine x_getc 30 21 52 52 fl_P_54 tk_23_21 (hM.at 0 rfl) rfl rfl d_P_cost_31 ?_
            refine x_iload_n d_P_cost_34 1 rfl rfl ?_
            refine x_iload_n d_P_cost_35 3 rfl rfl ?_
            refine x_iast 52 (hM.at 15 rfl) rfl ⟨by decide, rfl, by decide⟩ rfl (by omega) d_P_cost_36 (fun Q3 hQ3 => ?_)
            refine x_goto (tgt := 47) d_P_cost_37 rfl ?_
            refine x_iconst d_P_cost_47 ?_
            exact x_zret d_P_cost_48 rfl (narz (by omega)) (lr rfl) (lr rfl) (⟨_, rfl, rfl, Or.inr ⟨by omega, rfl, by rw [if_neg (by omega), ← hQ1]; exact hQ3⟩⟩)
        · refine x_iconst d_P_cost_24 ?_
          exact x_zret d_P_cost_25 rfl (narz (by omega)) (lr rfl) (lr rfl) (⟨_, rfl, rfl, Or.inl ⟨by omega, rfl, hQ1⟩⟩)
set_option maxHeartbeats 4000000 in
set_option maxRecDepth 100000 in
theorem c_P_parse {σ : xS} {R : xR} (hM : xsh σ mshape) (hco : R 30 12 = 0 ∨ (1 ≤ R 30 12 ∧ R 30 12 ≤ 40 ∧ ∃ a, mCo R a)) (h7 : ∀ i, 0 ≤ i → i < 2310 → s7 (R 44 i)) (hn : 0 ≤ R 30 15 ∧ R 30 15 ≤ 16) (hwd : ∀ k, 0 ≤ k → k < R 30 15 → 0 ≤ R 48 k ∧ R 48 k < 6) : Ct m_P_parse 4 0 0 [.ref (σ 30).1] σ R (Zm σ (fun z R1 => (∀ p q, p ≠ 49 → p ≠ 50 → ¬ (p = 30 ∧ q = 0) → R1 p q = R p q) ∧ ((R 30 12 = 0 ∧ R1 30 0 = 1) ∨ (R 30 12 ≠ 0 ∧ R1 30 0 = 0 ∧ ∃ a, mCo R a ∧ pR (gM R) a (R 48) (R 30 15) z)))) := by
  refine Ct.of [some (.ref ((σ 30).1))] rfl (by decide +kernel) (lr rfl) (fun X => ?_)
  have hthis := thisM hM
  have h12 : 0 ≤ R 30 12 ∧ R 30 12 ≤ 40 := by
    rcases hco with q | ⟨q1, q2, _⟩
    · omega
    · omega
  refine x_aload_n d_P_parse_0 0 rfl rfl ?_
  refine x_iconst d_P_parse_1 ?_
  refine x_puti 30 0 0 fp_P_66 tk_23_0 (hM.at 0 rfl) rfl rfl d_P_parse_2 (fun Q1 hQ1 => ?_)
  refine x_aload_n d_P_parse_5 0 rfl rfl ?_
  refine x_geti 30 12 12 (R 30 12) fl_P_93 tk_23_12 (hM.at 0 rfl) rfl rfl (xr_d hQ1 (by decide)) d_P_parse_6 ?_
  refine x_if_ne (tgt := 20) d_P_parse_9 rfl (by omega) (fun c9 => ?_) (fun c9 => ?_)
  · refine x_aload_n d_P_parse_20 0 rfl rfl ?_
    obtain ⟨_, _, a, ha⟩ := hco.resolve_left (fun e => by omega)
    have hkp : ∀ p q, ¬ (p = 30 ∧ q = 0) → Q1 p q = R p q := fun p q a => xr_up hQ1 (by omega)
    have eg : gM Q1 = gM R := by
      unfold gM
      have e1 : Q1 30 3 = R 30 3 := hkp 30 3 (by decide)
      have e2 : Q1 35 = R 35 := funext fun b => hkp 35 b (by omega)
      have e3 : Q1 36 = R 36 := funext fun b => hkp 36 b (by omega)
      have e4 : Q1 37 = R 37 := funext fun b => hkp 37 b (by omega)
      rw [e1, e2, e3, e4]
    have e48 : Q1 48 = R 48 := funext fun b => hkp 48 b (by omega)
    have e15 : Q1 30 15 = R 30 15 := hkp 30 15 (by decide)
    refine x_cvm 30 (As := []) (c_P_parsed (R := Q1) hM (ha.keep (hkp 30 3 (by decide)) (hkp 30 12 (by decide)) (fun p q hp => hkp p q (by omega))) (fun i a b => by rw [hkp 44 i (by omega)]; exact h7 i a b) (by rw [e15]; exact hn) (by rw [e48, e15]; exact hwd)) cs_P_142 hthis rfl rfl (lr rfl) d_P_parse_21 (lr rfl) ⟨lr rfl, lr rfl⟩ (fun z2 Q3 hQ3 => ?_)
    exact x_iret d_P_parse_24 rfl (lr rfl) (lr rfl) (⟨_, rfl, rfl, fun p q a b c => (hQ3.1 p q a b).trans (hkp p q c), Or.inr ⟨by omega, (hQ3.1 30 0 (by decide) (by decide)).trans (xr_s hQ1), a, ha, by have := hQ3.2; rw [eg, e48, e15] at this; exact this⟩⟩)
  · refine x_aload_n d_P_parse_12 0 rfl rfl ?_
    refine x_iconst d_P_parse_13 ?_
    refine x_cvm 30 (As := [vi 1]) (c_P_fails (R := Q1) hM 1) cs_P_86 hthis rfl rfl (lr rfl) d_P_parse_14 (lr rfl) ⟨lr rfl, lr rfl⟩ (fun z4 Q5 hQ5 => ?_)
    refine x_goto (tgt := 24) d_P_parse_17 rfl ?_
    exact x_iret d_P_parse_24 rfl (lr rfl) (lr rfl) (⟨_, rfl, rfl, fun p q a b c => by rw [hQ5.2, xr_up rfl c]; exact xr_up hQ1 c, Or.inl ⟨by omega, by rw [hQ5.2, xr_s rfl]⟩⟩)
set_option maxHeartbeats 4000000 in
set_option maxRecDepth 100000 in
theorem c_P_step {σ : xS} {R : xR} (hM : xsh σ mshape) (k i : Int) (hk : -2147483648 ≤ k ∧ k < 2147483648) (hi : -2147483648 ≤ i ∧ i < 2147483648) (hf : 0 ≤ R 30 22 ∧ R 30 22 ≤ 40) : Ct m_P_step 1 0 0 [.ref (σ 30).1, vi k, vi i] σ R (Zm σ (fun z R1 => R1 = xup R 30 0 0 ∧ z = if k < 0 ∨ R 30 22 ≤ k ∨ i < 0 ∨ 6 < i then -1 else R 55 (7 * k + i))) := by
  refine Ct.of [some (.ref ((σ 30).1)), some (vi k), some (vi i)] rfl (by decide +kernel) (lr rfl) (fun X => ?_)
  refine x_aload_n d_P_step_0 0 rfl rfl ?_
  refine x_iconst d_P_step_1 ?_
  refine x_puti 30 0 0 fp_P_66 tk_23_0 (hM.at 0 rfl) rfl rfl d_P_step_2 (fun Q1 hQ1 => ?_)
  refine x_iload_n d_P_step_5 1 rfl rfl ?_
  refine x_if_lt (tgt := 27) d_P_step_6 rfl (by omega) (fun c6 => ?_) (fun c6 => ?_)
  · refine x_iconst d_P_step_27 ?_
    refine x_goto (tgt := 42) d_P_step_28 rfl ?_
    exact x_iret d_P_step_42 rfl (lr rfl) (lr rfl) (⟨_, rfl, rfl, hQ1, (if_pos (by omega)).symm⟩)
  · refine x_iload_n d_P_step_9 1 rfl rfl ?_
    refine x_aload_n d_P_step_10 0 rfl rfl ?_
    refine x_geti 30 22 22 (R 30 22) fl_P_73 tk_23_22 (hM.at 0 rfl) rfl rfl (xr_d hQ1 (by decide)) d_P_step_11 ?_
    refine x_icmp_ge (tgt := 27) d_P_step_14 rfl (by omega) (by omega) (fun c14 => ?_) (fun c14 => ?_)
    · refine x_iconst d_P_step_27 ?_
      refine x_goto (tgt := 42) d_P_step_28 rfl ?_
      exact x_iret d_P_step_42 rfl (lr rfl) (lr rfl) (⟨_, rfl, rfl, hQ1, (if_pos (by omega)).symm⟩)
    · refine x_iload_n d_P_step_17 2 rfl rfl ?_
      refine x_if_lt (tgt := 27) d_P_step_18 rfl (by omega) (fun c18 => ?_) (fun c18 => ?_)
      · refine x_iconst d_P_step_27 ?_
        refine x_goto (tgt := 42) d_P_step_28 rfl ?_
        exact x_iret d_P_step_42 rfl (lr rfl) (lr rfl) (⟨_, rfl, rfl, hQ1, (if_pos (by omega)).symm⟩)
      · refine x_iload_n d_P_step_21 2 rfl rfl ?_
        refine x_bipush d_P_step_22 rfl ?_
        refine x_icmp_le (tgt := 31) d_P_step_24 rfl (by omega) (by omega) (fun c24 => ?_) (fun c24 => ?_)
        · refine x_aload_n d_P_step_31 0 rfl rfl ?_
          refine x_getc 30 24 55 55 fl_P_57 tk_23_24 (hM.at 0 rfl) rfl rfl d_P_step_32 ?_
          refine x_bipush d_P_step_35 rfl ?_
          refine x_iload_n d_P_step_37 1 rfl rfl ?_
          refine x_imul d_P_step_38 ?_
          refine x_iload_n d_P_step_39 2 rfl rfl ?_
          refine x_iadd d_P_step_40 ?_
          refine x_iald 55 (R 55 ((7 * k) + i)) (hM.at 16 rfl) rfl ⟨by decide, rfl, by decide⟩ rfl (by omega) (xr_o hQ1 (by decide)) d_P_step_41 ?_
          exact x_iret d_P_step_42 rfl (lr rfl) (lr rfl) (⟨_, rfl, rfl, hQ1, (if_neg (by omega)).symm⟩)
        · refine x_iconst d_P_step_27 ?_
          refine x_goto (tgt := 42) d_P_step_28 rfl ?_
          exact x_iret d_P_step_42 rfl (lr rfl) (lr rfl) (⟨_, rfl, rfl, hQ1, (if_pos (by omega)).symm⟩)
set_option maxHeartbeats 4000000 in
set_option maxRecDepth 100000 in
theorem c_P_price {σ : xS} {R : xR} (hM : xsh σ mshape)  : Ct m_P_price 1 0 0 [.ref (σ 30).1] σ R (Zm σ (fun z R1 => R1 = xup R 30 0 0 ∧ z = R 30 23)) := by
  refine Ct.of [some (.ref ((σ 30).1))] rfl (by decide +kernel) (lr rfl) (fun X => ?_)
  refine x_aload_n d_P_price_0 0 rfl rfl ?_
  refine x_iconst d_P_price_1 ?_
  refine x_puti 30 0 0 fp_P_66 tk_23_0 (hM.at 0 rfl) rfl rfl d_P_price_2 (fun Q1 hQ1 => ?_)
  refine x_aload_n d_P_price_5 0 rfl rfl ?_
  refine x_geti 30 23 23 (R 30 23) fl_P_76 tk_23_23 (hM.at 0 rfl) rfl rfl (xr_d hQ1 (by decide)) d_P_price_6 ?_
  exact x_iret d_P_price_9 rfl (lr rfl) (lr rfl) (⟨_, rfl, rfl, hQ1, rfl⟩)
set_option maxHeartbeats 4000000 in
set_option maxRecDepth 100000 in
theorem c_P_reach {σ : xS} {R : xR} (hM : xsh σ mshape) (k : Int) (hk : -2147483648 ≤ k ∧ k < 2147483648) (hf : 0 ≤ R 30 22 ∧ R 30 22 ≤ 40) : Ct m_P_reach 2 0 0 [.ref (σ 30).1, vi k] σ R (Zm σ (fun z R1 => ((k < 0 ∨ R 30 22 ≤ k) ∧ R1 = xup (xup R 30 0 0) 30 0 1) ∨ (¬ (k < 0 ∨ R 30 22 ≤ k) ∧ R1 = xup R 30 0 0 ∧ z = R 56 k))) := by
  refine Ct.of [some (.ref ((σ 30).1)), some (vi k)] rfl (by decide +kernel) (lr rfl) (fun X => ?_)
  have hthis := thisM hM
  refine x_aload_n d_P_reach_0 0 rfl rfl ?_
  refine x_iconst d_P_reach_1 ?_
  refine x_puti 30 0 0 fp_P_66 tk_23_0 (hM.at 0 rfl) rfl rfl d_P_reach_2 (fun Q1 hQ1 => ?_)
  refine x_iload_n d_P_reach_5 1 rfl rfl ?_
  refine x_if_lt (tgt := 17) d_P_reach_6 rfl (by omega) (fun c6 => ?_) (fun c6 => ?_)
  · refine x_aload_n d_P_reach_17 0 rfl rfl ?_
    refine x_iconst d_P_reach_18 ?_
    refine x_cvm 30 (As := [vi 1]) (c_P_fails (R := Q1) hM 1) cs_P_86 hthis rfl rfl (lr rfl) d_P_reach_19 (lr rfl) ⟨lr rfl, lr rfl⟩ (fun z2 Q3 hQ3 => ?_)
    refine x_goto (tgt := 31) d_P_reach_22 rfl ?_
    exact x_iret d_P_reach_31 rfl (lr rfl) (lr rfl) (⟨_, rfl, rfl, Or.inl ⟨by omega, by rw [hQ3.2, hQ1]⟩⟩)
  · refine x_iload_n d_P_reach_9 1 rfl rfl ?_
    refine x_aload_n d_P_reach_10 0 rfl rfl ?_
    refine x_geti 30 22 22 (R 30 22) fl_P_73 tk_23_22 (hM.at 0 rfl) rfl rfl (xr_d hQ1 (by decide)) d_P_reach_11 ?_
    refine x_icmp_lt (tgt := 25) d_P_reach_14 rfl (by omega) (by omega) (fun c14 => ?_) (fun c14 => ?_)
    · refine x_aload_n d_P_reach_25 0 rfl rfl ?_
      refine x_getc 30 25 56 56 fl_P_60 tk_23_25 (hM.at 0 rfl) rfl rfl d_P_reach_26 ?_
      refine x_iload_n d_P_reach_29 1 rfl rfl ?_
      refine x_iald 56 (R 56 k) (hM.at 17 rfl) rfl ⟨by decide, rfl, by decide⟩ rfl (by omega) (xr_o hQ1 (by decide)) d_P_reach_30 ?_
      exact x_iret d_P_reach_31 rfl (lr rfl) (lr rfl) (⟨_, rfl, rfl, Or.inr ⟨by omega, hQ1, rfl⟩⟩)
    · refine x_aload_n d_P_reach_17 0 rfl rfl ?_
      refine x_iconst d_P_reach_18 ?_
      refine x_cvm 30 (As := [vi 1]) (c_P_fails (R := Q1) hM 1) cs_P_86 hthis rfl rfl (lr rfl) d_P_reach_19 (lr rfl) ⟨lr rfl, lr rfl⟩ (fun z4 Q5 hQ5 => ?_)
      refine x_goto (tgt := 31) d_P_reach_22 rfl ?_
      exact x_iret d_P_reach_31 rfl (lr rfl) (lr rfl) (⟨_, rfl, rfl, Or.inl ⟨by omega, by rw [hQ5.2, hQ1]⟩⟩)
set_option maxHeartbeats 4000000 in
set_option maxRecDepth 100000 in
theorem c_P_letter {σ : xS} {R : xR} (hM : xsh σ mshape) (k : Int) (hk : -2147483648 ≤ k ∧ k < 2147483648) (hf : 0 ≤ R 30 15 ∧ R 30 15 ≤ 16) : Ct m_P_letter 1 0 0 [.ref (σ 30).1, vi k] σ R (Zm σ (fun z R1 => R1 = xup R 30 0 0 ∧ z = if k < 0 ∨ R 30 15 ≤ k then -1 else R 48 k)) := by
  refine Ct.of [some (.ref ((σ 30).1)), some (vi k)] rfl (by decide +kernel) (lr rfl) (fun X => ?_)
  refine x_aload_n d_P_letter_0 0 rfl rfl ?_
  refine x_iconst d_P_letter_1 ?_
  refine x_puti 30 0 0 fp_P_66 tk_23_0 (hM.at 0 rfl) rfl rfl d_P_letter_2 (fun Q1 hQ1 => ?_)
  refine x_iload_n d_P_letter_5 1 rfl rfl ?_
  refine x_if_lt (tgt := 26) d_P_letter_6 rfl (by omega) (fun c6 => ?_) (fun c6 => ?_)
  · refine x_iconst d_P_letter_26 ?_
    exact x_iret d_P_letter_27 rfl (lr rfl) (lr rfl) (⟨_, rfl, rfl, hQ1, (if_pos (by omega)).symm⟩)
  · refine x_iload_n d_P_letter_9 1 rfl rfl ?_
    refine x_aload_n d_P_letter_10 0 rfl rfl ?_
    refine x_geti 30 15 15 (R 30 15) fl_P_135 tk_23_15 (hM.at 0 rfl) rfl rfl (xr_d hQ1 (by decide)) d_P_letter_11 ?_
    refine x_icmp_ge (tgt := 26) d_P_letter_14 rfl (by omega) (by omega) (fun c14 => ?_) (fun c14 => ?_)
    · refine x_iconst d_P_letter_26 ?_
      exact x_iret d_P_letter_27 rfl (lr rfl) (lr rfl) (⟨_, rfl, rfl, hQ1, (if_pos (by omega)).symm⟩)
    · refine x_aload_n d_P_letter_17 0 rfl rfl ?_
      refine x_getc 30 17 48 48 fl_P_42 tk_23_17 (hM.at 0 rfl) rfl rfl d_P_letter_18 ?_
      refine x_iload_n d_P_letter_21 1 rfl rfl ?_
      refine x_iald 48 (R 48 k) (hM.at 11 rfl) rfl ⟨by decide, rfl, by decide⟩ rfl (by omega) (xr_o hQ1 (by decide)) d_P_letter_22 ?_
      refine x_goto (tgt := 27) d_P_letter_23 rfl ?_
      exact x_iret d_P_letter_27 rfl (lr rfl) (lr rfl) (⟨_, rfl, rfl, hQ1, (if_neg (by omega)).symm⟩)
