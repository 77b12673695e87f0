/-! the model: repair, apply (walks printed by gen/model11.py) -/
/-- what repair leaves -/
def mRp (R : xR) (guard : Int) (z : Int) (R1 : xR) : Prop := mFz R R1 ∧
  ((R 30 12 = 0 ∧ R1 30 0 = 1 ∧ R1 30 22 = 0 ∧ R1 30 23 = 0) ∨
   (R 30 12 ≠ 0 ∧ (guard < 0 ∨ 3 < guard) ∧ R1 30 0 = 2 ∧ R1 30 22 = 0 ∧ R1 30 23 = 0) ∨
   (R 30 12 ≠ 0 ∧ (0 ≤ guard ∧ guard ≤ 3) ∧ ∃ a p, mCo R a ∧ pR (gM R) a (R 48) (R 30 15) p ∧
     ((p < 0 ∧ R1 30 0 = 0 ∧ z = 0 ∧ R1 30 22 = 0 ∧ R1 30 23 = 0) ∨
      (0 ≤ p ∧ R1 30 16 = p ∧ (rsl (gM R) a (mEv R p) guard).1.length ≤ 40 ∧ R1 30 0 = 0 ∧ z = ((rsl (gM R) a (mEv R p) guard).1.length : Int) ∧ mFd R1 (rsl (gM R) a (mEv R p) guard).1 ∧ R1 30 23 = (rsl (gM R) a (mEv R p) guard).2) ∨
      (0 ≤ p ∧ 40 < (rsl (gM R) a (mEv R p) guard).1.length ∧ R1 30 0 = 3 ∧ R1 30 22 = 0 ∧ R1 30 23 = 0))))
set_option maxHeartbeats 4000000 in
set_option maxRecDepth 100000 in
theorem c_P_repair {σ : xS} {R : xR} (hM : xsh σ mshape) (hco : R 30 12 = 0 ∨ (1 ≤ R 30 12 ∧ R 30 12 ≤ 40 ∧ ∃ a, mCo R a)) (h7 : ∀ i, 0 ≤ i → i < 2310 → s7 (R 44 i)) (he : ∀ p, 0 ≤ p → p ≤ R 30 15 → enOk (mEv R p)) (guard : Int) (hgd : -2147483648 ≤ guard ∧ guard < 2147483648) (hn : 0 ≤ R 30 15 ∧ R 30 15 ≤ 16) (hwd : ∀ k, 0 ≤ k → k < R 30 15 → 0 ≤ R 48 k ∧ R 48 k < 6) : Ct m_P_repair 5 0 0 [.ref (σ 30).1, vi guard] σ R (Zm σ (mRp R guard)) := by
  refine Ct.of [some (.ref ((σ 30).1)), some (vi guard), none] rfl (by decide +kernel) (lr rfl) (fun X => ?_)
  have hthis := thisM hM
  have h12 : 0 ≤ R 30 12 ∧ R 30 12 ≤ 40 := by
    rcases hco with q | ⟨q1, q2, _⟩
    · omega
    · omega
  have hcx : R 30 12 ≠ 0 → ∃ a, mCo R a := fun h => (hco.resolve_left h).2.2
  clear hco
  refine x_aload_n d_P_repair_0 0 rfl rfl ?_
  refine x_aload_n d_P_repair_1 0 rfl rfl ?_
  refine x_geti 30 12 12 (R 30 12) fl_P_93 tk_23_12 (hM.at 0 rfl) rfl rfl rfl d_P_repair_2 ?_
  refine x_if_ne (tgt := 12) d_P_repair_5 rfl (by omega) (fun c5 => ?_) (fun c5 => ?_)
  · refine x_iload_n d_P_repair_12 1 rfl rfl ?_
    refine x_if_lt (tgt := 21) d_P_repair_13 rfl (by omega) (fun c13 => ?_) (fun c13 => ?_)
    · refine x_iconst d_P_repair_21 ?_
      refine x_goto (tgt := 26) d_P_repair_22 rfl ?_
      refine x_puti 30 0 0 fp_P_66 tk_23_0 (hM.at 0 rfl) rfl rfl d_P_repair_26 (fun Q1 hQ1 => ?_)
      refine x_aload_n d_P_repair_29 0 rfl rfl ?_
      refine x_cvv 30 (As := []) (c_P_forget (R := Q1) hM) cs_P_96 hthis rfl rfl (lr rfl) d_P_repair_30 (lr rfl) ⟨lr rfl, lr rfl⟩ (fun Q2 hQ2 => ?_)
      have hz2 : mFz R Q2 := ((mFz.refl.up hQ1 (by omega)).up rfl (by omega)).up hQ2 (by omega)
      have f22 : Q2 30 22 = 0 := by rw [hQ2, xr_d rfl (by decide), xr_s rfl]
      have f23 : Q2 30 23 = 0 := by rw [hQ2, xr_s rfl]
      have f00 : Q2 30 0 = 2 := by rw [hQ2, xr_d rfl (by decide), xr_d rfl (by decide), xr_s hQ1]
      refine x_aload_n d_P_repair_33 0 rfl rfl ?_
      refine x_geti 30 0 0 2 fl_P_66 tk_23_0 (hM.at 0 rfl) rfl rfl f00 d_P_repair_34 ?_
      refine x_if_le (tgt := 42) d_P_repair_37 rfl (by omega) (fun c37 => ?_) (fun c37 => ?_)
      · omega
      · refine x_iconst d_P_repair_40 ?_
        exact x_iret d_P_repair_41 rfl (lr rfl) (lr rfl) (⟨_, rfl, rfl, hz2, Or.inr (Or.inl ⟨by omega, by omega, f00, f22, f23⟩)⟩)
    · refine x_iload_n d_P_repair_16 1 rfl rfl ?_
      refine x_iconst d_P_repair_17 ?_
      refine x_icmp_le (tgt := 25) d_P_repair_18 rfl (by omega) (by omega) (fun c18 => ?_) (fun c18 => ?_)
      · refine x_iconst d_P_repair_25 ?_
        refine x_puti 30 0 0 fp_P_66 tk_23_0 (hM.at 0 rfl) rfl rfl d_P_repair_26 (fun Q3 hQ3 => ?_)
        refine x_aload_n d_P_repair_29 0 rfl rfl ?_
        refine x_cvv 30 (As := []) (c_P_forget (R := Q3) hM) cs_P_96 hthis rfl rfl (lr rfl) d_P_repair_30 (lr rfl) ⟨lr rfl, lr rfl⟩ (fun Q4 hQ4 => ?_)
        have hz2 : mFz R Q4 := ((mFz.refl.up hQ3 (by omega)).up rfl (by omega)).up hQ4 (by omega)
        have f22 : Q4 30 22 = 0 := by rw [hQ4, xr_d rfl (by decide), xr_s rfl]
        have f23 : Q4 30 23 = 0 := by rw [hQ4, xr_s rfl]
        have f00 : Q4 30 0 = 0 := by rw [hQ4, xr_d rfl (by decide), xr_d rfl (by decide), xr_s hQ3]
        refine x_aload_n d_P_repair_33 0 rfl rfl ?_
        refine x_geti 30 0 0 0 fl_P_66 tk_23_0 (hM.at 0 rfl) rfl rfl f00 d_P_repair_34 ?_
        refine x_if_le (tgt := 42) d_P_repair_37 rfl (by omega) (fun c37 => ?_) (fun c37 => ?_)
        · refine x_aload_n d_P_repair_42 0 rfl rfl ?_
          refine x_aload_n d_P_repair_43 0 rfl rfl ?_
          have hne : R 30 12 ≠ 0 := by omega
          have hg3 : 0 ≤ guard ∧ guard ≤ 3 := by omega
          obtain ⟨a, ha⟩ := hcx hne
          have eg := hz2.gm
          have e48 : Q4 48 = R 48 := funext fun b => hz2 48 b (by decide) (by decide) (by decide) (by decide) (by decide) (by omega)
          have e15 : Q4 30 15 = R 30 15 := hz2 30 15 (by decide) (by decide) (by decide) (by decide) (by decide) (by decide)
          refine x_cvm 30 (As := []) (c_P_parsed (R := Q4) hM (hz2.co ha) (hz2.s7 h7) (by rw [e15]; exact hn) (by rw [e48, e15]; exact hwd)) cs_P_142 hthis rfl rfl (lr rfl) d_P_repair_44 (lr rfl) ⟨lr rfl, lr rfl⟩ (fun z5 Q6 hQ6 => ?_)
          obtain ⟨hq1, hp⟩ := hQ6
          rw [eg, e48, e15] at hp
          have hz3 : mFz R Q6 := fun p q a b c d e f => (hq1 p q a b).trans (hz2 p q a b c d e f)
          have hpr := pR.rng (by omega) (fun j q1 q2 => hwd j q1 q2) hp
          have k22 := (hq1 30 22 (by decide) (by decide)).trans f22
          have k23 := (hq1 30 23 (by decide) (by decide)).trans f23
          have k00 := (hq1 30 0 (by decide) (by decide)).trans f00
          refine x_puti 30 16 16 fp_P_146 tk_23_16 (hM.at 0 rfl) rfl rfl d_P_repair_47 (fun Q7 hQ7 => ?_)
          refine x_aload_n d_P_repair_50 0 rfl rfl ?_
          refine x_geti 30 16 16 z5 fl_P_146 tk_23_16 (hM.at 0 rfl) rfl rfl (xr_s hQ7) d_P_repair_51 ?_
          refine x_if_ge (tgt := 59) d_P_repair_54 rfl (by omega) (fun c54 => ?_) (fun c54 => ?_)
          · refine x_iconst d_P_repair_59 ?_
            refine x_istore_n d_P_repair_60 2 rfl [some (.ref ((σ 30).1)), some (vi guard), some (vi 1)] rfl rfl (lr rfl) ?_
            have hp0 : 0 ≤ z5 ∧ z5 ≤ R 30 15 := by omega
            generalize z5 = p at *
            have hl : ∀ (m : Nat) (c : Int) (D : List (List Int × Int)) (R1 : xR), (4 - c).toNat = m → (rI (gM R) a (mEv R p) guard c D) → (mFz R R1) → (R1 30 16 = p) → (R1 30 0 = 0) → (mFd R1 D) → (R1 30 23 = @ite Int (D = []) (Classical.propDecidable _) 0 (c - 1)) → V X m_P_repair (5, 0, 0, Zm σ (mRp R guard)) σ R1 0 0 61 [some (.ref ((σ 30).1)), some (vi guard), some (vi c)] [] := by
              intro m
              induction m using Nat.strongRecOn with
              | _ m ih =>
                intro c D R1 hm hri hfz h16 h00 hD h23
                have hri0 := hri.1
                refine x_iload_n d_P_repair_61 2 rfl rfl ?_
                refine x_iconst d_P_repair_62 ?_
                refine x_icmp_ge (tgt := 101) d_P_repair_63 rfl (by omega) (by omega) (fun c63 => ?_) (fun c63 => ?_)
                · have hri1 := hri.1
                  have hln := hri.len
                  have hfin := hri.fin (by
                    exact Or.inl (by omega))
                  refine x_aload_n d_P_repair_101 0 rfl rfl ?_
                  refine x_geti 30 22 22 (D.length : Int) fl_P_73 tk_23_22 (hM.at 0 rfl) rfl rfl hD.1 d_P_repair_102 ?_
                  refine x_bipush d_P_repair_105 rfl ?_
                  refine x_icmp_le (tgt := 120) d_P_repair_107 rfl (by omega) (by omega) (fun c107 => ?_) (fun c107 => ?_)
                  · refine x_aload_n d_P_repair_120 0 rfl rfl ?_
                    refine x_geti 30 22 22 (D.length : Int) fl_P_73 tk_23_22 (hM.at 0 rfl) rfl rfl hD.1 d_P_repair_121 ?_
                    exact x_iret d_P_repair_124 rfl (lr rfl) (lr rfl) (⟨_, rfl, rfl, hfz, Or.inr (Or.inr ⟨hne, hg3, a, p, ha, hp, Or.inr (Or.inl ⟨hp0.1, h16, by rw [hfin]; exact (by omega : D.length ≤ 40), h00, by rw [hfin], by rw [hfin]; exact hD, by rw [hfin]; exact h23⟩)⟩)⟩)
                  · refine x_aload_n d_P_repair_110 0 rfl rfl ?_
                    refine x_cvv 30 (As := []) (c_P_forget (R := R1) hM) cs_P_96 hthis rfl rfl (lr rfl) d_P_repair_111 (lr rfl) ⟨lr rfl, lr rfl⟩ (fun Q1 hQ1 => ?_)
                    refine x_aload_n d_P_repair_114 0 rfl rfl ?_
                    refine x_iconst d_P_repair_115 ?_
                    refine x_cvm 30 (As := [vi 3]) (c_P_fails (R := Q1) hM 3) cs_P_86 hthis rfl rfl (lr rfl) d_P_repair_116 (lr rfl) ⟨lr rfl, lr rfl⟩ (fun z2 Q3 hQ3 => ?_)
                    exact x_iret d_P_repair_119 rfl (lr rfl) (lr rfl) (⟨_, rfl, rfl, ((hfz.up rfl (by omega)).up hQ1 (by omega)).up hQ3.2 (by omega), Or.inr (Or.inr ⟨hne, hg3, a, p, ha, hp, Or.inr (Or.inr ⟨hp0.1, by rw [hfin]; exact (by omega : 40 < D.length), by rw [hQ3.2, xr_s rfl], by rw [hQ3.2, xr_d rfl (by decide), hQ1, xr_d rfl (by decide), xr_s rfl], by rw [hQ3.2, xr_d rfl (by decide), hQ1, xr_s rfl]⟩)⟩)⟩)
                · have hri1 := hri.1
                  have hln := hri.len
                  refine x_aload_n d_P_repair_66 0 rfl rfl ?_
                  refine x_geti 30 22 22 (D.length : Int) fl_P_73 tk_23_22 (hM.at 0 rfl) rfl rfl hD.1 d_P_repair_67 ?_
                  refine x_if_ne (tgt := 101) d_P_repair_70 rfl (by omega) (fun c70 => ?_) (fun c70 => ?_)
                  · have hri1 := hri.1
                    have hln := hri.len
                    have hfin := hri.fin (by
                      exact Or.inr (fun e => by rw [e] at c70; exact absurd rfl c70))
                    refine x_aload_n d_P_repair_101 0 rfl rfl ?_
                    refine x_geti 30 22 22 (D.length : Int) fl_P_73 tk_23_22 (hM.at 0 rfl) rfl rfl hD.1 d_P_repair_102 ?_
                    refine x_bipush d_P_repair_105 rfl ?_
                    refine x_icmp_le (tgt := 120) d_P_repair_107 rfl (by omega) (by omega) (fun c107 => ?_) (fun c107 => ?_)
                    · refine x_aload_n d_P_repair_120 0 rfl rfl ?_
                      refine x_geti 30 22 22 (D.length : Int) fl_P_73 tk_23_22 (hM.at 0 rfl) rfl rfl hD.1 d_P_repair_121 ?_
                      exact x_iret d_P_repair_124 rfl (lr rfl) (lr rfl) (⟨_, rfl, rfl, hfz, Or.inr (Or.inr ⟨hne, hg3, a, p, ha, hp, Or.inr (Or.inl ⟨hp0.1, h16, by rw [hfin]; exact (by omega : D.length ≤ 40), h00, by rw [hfin], by rw [hfin]; exact hD, by rw [hfin]; exact h23⟩)⟩)⟩)
                    · refine x_aload_n d_P_repair_110 0 rfl rfl ?_
                      refine x_cvv 30 (As := []) (c_P_forget (R := R1) hM) cs_P_96 hthis rfl rfl (lr rfl) d_P_repair_111 (lr rfl) ⟨lr rfl, lr rfl⟩ (fun Q4 hQ4 => ?_)
                      refine x_aload_n d_P_repair_114 0 rfl rfl ?_
                      refine x_iconst d_P_repair_115 ?_
                      refine x_cvm 30 (As := [vi 3]) (c_P_fails (R := Q4) hM 3) cs_P_86 hthis rfl rfl (lr rfl) d_P_repair_116 (lr rfl) ⟨lr rfl, lr rfl⟩ (fun z5 Q6 hQ6 => ?_)
                      exact x_iret d_P_repair_119 rfl (lr rfl) (lr rfl) (⟨_, rfl, rfl, ((hfz.up rfl (by omega)).up hQ4 (by omega)).up hQ6.2 (by omega), Or.inr (Or.inr ⟨hne, hg3, a, p, ha, hp, Or.inr (Or.inr ⟨hp0.1, by rw [hfin]; exact (by omega : 40 < D.length), by rw [hQ6.2, xr_s rfl], by rw [hQ6.2, xr_d rfl (by decide), hQ4, xr_d rfl (by decide), xr_s rfl], by rw [hQ6.2, xr_d rfl (by decide), hQ4, xr_s rfl]⟩)⟩)⟩)
                  · refine x_aload_n d_P_repair_73 0 rfl rfl ?_
                    refine x_iload_n d_P_repair_74 2 rfl rfl ?_
                    refine x_iload_n d_P_repair_75 1 rfl rfl ?_
                    have hE := hfz.env h16
                    have hD0 : D = [] := List.eq_nil_of_length_eq_zero (by omega)
                    refine x_cvv 30 (As := [vi c, vi guard]) (c_P_search (R := R1) hM (hfz.co ha) (hfz.s7 h7) (hE.symm ▸ he p hp0.1 hp0.2) c guard (by omega) hg3 (by rw [hD.1]; omega)) cs_P_162 hthis rfl rfl (lr rfl) d_P_repair_76 (lr rfl) ⟨lr rfl, lr rfl⟩ (fun Q7 hQ7 => ?_)
                    obtain ⟨hq1, hq2⟩ := hQ7
                    rw [hE, hfz.gm] at hq2
                    have hfz2 := hfz.fr hq1
                    have hl3 := hq2.1
                    have hlen := srA_len (g := gM R) (a := a) (e := mEv R p) (cost := c) (guard := guard)
                    have h162 := (hq1 30 16 (by decide) (by decide) (by decide) (by decide) (by decide) (by decide)).trans h16
                    have h002 := (hq1 30 0 (by decide) (by decide) (by decide) (by decide) (by decide) (by decide)).trans h00
                    refine x_aload_n d_P_repair_79 0 rfl rfl ?_
                    refine x_aload_n d_P_repair_80 0 rfl rfl ?_
                    refine x_geti 30 22 22 ((srA (gM R) a (mEv R p) c guard).length : Int) fl_P_73 tk_23_22 (hM.at 0 rfl) rfl rfl hl3 d_P_repair_81 ?_
                    refine x_if_le (tgt := 91) d_P_repair_84 rfl (by omega) (fun c84 => ?_) (fun c84 => ?_)
                    · refine x_iconst d_P_repair_91 ?_
                      refine x_puti 30 23 23 fp_P_76 tk_23_23 (hM.at 0 rfl) rfl rfl d_P_repair_92 (fun Q8 hQ8 => ?_)
                      refine x_iinc d_P_repair_95 rfl [some (.ref ((σ 30).1)), some (vi guard), some (vi (c + 1))] rfl rfl (lr rfl) ?_
                      refine x_goto (tgt := 61) d_P_repair_98 rfl ?_
                      exact ih _ (by omega) (c + 1) (srA (gM R) a (mEv R p) c guard) Q8 rfl (hri.next hD0 (by omega)) (hfz2.up hQ8 (by omega)) ((xr_d hQ8 (by decide)).trans h162) ((xr_d hQ8 (by decide)).trans h002) (hq2.kept (xr_d hQ8 (by decide)) (fun p q hp => xr_o hQ8 (by omega))) (by rw [xr_s hQ8]; rw [@if_pos _ (Classical.propDecidable _) (List.eq_nil_of_length_eq_zero (by omega))])
                    · refine x_iload_n d_P_repair_87 2 rfl rfl ?_
                      refine x_goto (tgt := 92) d_P_repair_88 rfl ?_
                      refine x_puti 30 23 23 fp_P_76 tk_23_23 (hM.at 0 rfl) rfl rfl d_P_repair_92 (fun Q9 hQ9 => ?_)
                      refine x_iinc d_P_repair_95 rfl [some (.ref ((σ 30).1)), some (vi guard), some (vi (c + 1))] rfl rfl (lr rfl) ?_
                      refine x_goto (tgt := 61) d_P_repair_98 rfl ?_
                      exact ih _ (by omega) (c + 1) (srA (gM R) a (mEv R p) c guard) Q9 rfl (hri.next hD0 (by omega)) (hfz2.up hQ9 (by omega)) ((xr_d hQ9 (by decide)).trans h162) ((xr_d hQ9 (by decide)).trans h002) (hq2.kept (xr_d hQ9 (by decide)) (fun p q hp => xr_o hQ9 (by omega))) (by rw [xr_s hQ9]; rw [@if_neg _ (Classical.propDecidable _) (fun e => by rw [e] at c84; exact absurd c84 (by decide))]; omega)
            exact hl _ 1 [] Q7 rfl ⟨by omega, fun c' a b => by omega, fun _ => rfl, fun q => by omega⟩ (hz3.up hQ7 (by omega)) (xr_s hQ7) ((xr_d hQ7 (by decide)).trans k00) ⟨(xr_d hQ7 (by decide)).trans k22, fun k q h => by cases h⟩ (by rw [xr_d hQ7 (by decide), @if_pos _ (Classical.propDecidable _) rfl]; exact k23)
          · refine x_iconst d_P_repair_57 ?_
            exact x_iret d_P_repair_58 rfl (lr rfl) (lr rfl) (⟨_, rfl, rfl, hz3.up hQ7 (by omega), Or.inr (Or.inr ⟨hne, hg3, a, _, ha, hp, Or.inl ⟨by omega, (xr_d hQ7 (by decide)).trans k00, rfl, (xr_d hQ7 (by decide)).trans k22, (xr_d hQ7 (by decide)).trans k23⟩⟩)⟩)
        · omega
      · refine x_iconst d_P_repair_21 ?_
        refine x_goto (tgt := 26) d_P_repair_22 rfl ?_
        refine x_puti 30 0 0 fp_P_66 tk_23_0 (hM.at 0 rfl) rfl rfl d_P_repair_26 (fun Q8 hQ8 => ?_)
        refine x_aload_n d_P_repair_29 0 rfl rfl ?_
        refine x_cvv 30 (As := []) (c_P_forget (R := Q8) hM) cs_P_96 hthis rfl rfl (lr rfl) d_P_repair_30 (lr rfl) ⟨lr rfl, lr rfl⟩ (fun Q9 hQ9 => ?_)
        have hz2 : mFz R Q9 := ((mFz.refl.up hQ8 (by omega)).up rfl (by omega)).up hQ9 (by omega)
        have f22 : Q9 30 22 = 0 := by rw [hQ9, xr_d rfl (by decide), xr_s rfl]
        have f23 : Q9 30 23 = 0 := by rw [hQ9, xr_s rfl]
        have f00 : Q9 30 0 = 2 := by rw [hQ9, xr_d rfl (by decide), xr_d rfl (by decide), xr_s hQ8]
        refine x_aload_n d_P_repair_33 0 rfl rfl ?_
        refine x_geti 30 0 0 2 fl_P_66 tk_23_0 (hM.at 0 rfl) rfl rfl f00 d_P_repair_34 ?_
        refine x_if_le (tgt := 42) d_P_repair_37 rfl (by omega) (fun c37 => ?_) (fun c37 => ?_)
        · omega
        · refine x_iconst d_P_repair_40 ?_
          exact x_iret d_P_repair_41 rfl (lr rfl) (lr rfl) (⟨_, rfl, rfl, hz2, Or.inr (Or.inl ⟨by omega, by omega, f00, f22, f23⟩)⟩)
  · refine x_iconst d_P_repair_8 ?_
    refine x_goto (tgt := 26) d_P_repair_9 rfl ?_
    refine x_puti 30 0 0 fp_P_66 tk_23_0 (hM.at 0 rfl) rfl rfl d_P_repair_26 (fun Q10 hQ10 => ?_)
    refine x_aload_n d_P_repair_29 0 rfl rfl ?_
    refine x_cvv 30 (As := []) (c_P_forget (R := Q10) hM) cs_P_96 hthis rfl rfl (lr rfl) d_P_repair_30 (lr rfl) ⟨lr rfl, lr rfl⟩ (fun Q11 hQ11 => ?_)
    have hz2 : mFz R Q11 := ((mFz.refl.up hQ10 (by omega)).up rfl (by omega)).up hQ11 (by omega)
    have f22 : Q11 30 22 = 0 := by rw [hQ11, xr_d rfl (by decide), xr_s rfl]
    have f23 : Q11 30 23 = 0 := by rw [hQ11, xr_s rfl]
    have f00 : Q11 30 0 = 1 := by rw [hQ11, xr_d rfl (by decide), xr_d rfl (by decide), xr_s hQ10]
    refine x_aload_n d_P_repair_33 0 rfl rfl ?_
    refine x_geti 30 0 0 1 fl_P_66 tk_23_0 (hM.at 0 rfl) rfl rfl f00 d_P_repair_34 ?_
    refine x_if_le (tgt := 42) d_P_repair_37 rfl (by omega) (fun c37 => ?_) (fun c37 => ?_)
    · omega
    · refine x_iconst d_P_repair_40 ?_
      exact x_iret d_P_repair_41 rfl (lr rfl) (lr rfl) (⟨_, rfl, rfl, hz2, Or.inl ⟨by omega, f00, f22, f23⟩⟩)
