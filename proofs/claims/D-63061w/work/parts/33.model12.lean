/-! the model: apply (walk printed by gen/model12.py) -/
/-- what apply leaves -/
def mAp (R : xR) (D : List (List Int × Int)) (e0 : xEn) (k : Int) (z : Int) (R1 : xR) : Prop :=
  (∀ p q, p ≠ 48 → p ≠ 49 → p ≠ 57 → ¬ (p = 30 ∧ (q = 0 ∨ q = 15 ∨ q = 22 ∨ q = 23 ∨ q = 27 ∨ q = 28)) → R1 p q = R p q) ∧
  (((k < 0 ∨ (D.length : Int) ≤ k) ∧ R1 30 0 = 1 ∧ (∀ i, R1 48 i = R 48 i) ∧ R1 30 15 = R 30 15 ∧ R1 30 22 = R 30 22 ∧ R1 30 23 = R 30 23) ∨
   (0 ≤ k ∧ ∃ q, D[k.toNat]? = some q ∧ 16 < ndN e0 q.1 ∧ R1 30 0 = 2 ∧ (∀ i, R1 48 i = R 48 i) ∧ R1 30 15 = R 30 15 ∧ R1 30 22 = R 30 22 ∧ R1 30 23 = R 30 23) ∨
   (0 ≤ k ∧ ∃ q, D[k.toNat]? = some q ∧ ndN e0 q.1 ≤ 16 ∧ R1 30 0 = 0 ∧ z = ndN e0 q.1 ∧ R1 30 15 = ndN e0 q.1 ∧ (∀ i, 0 ≤ i → i < ndN e0 q.1 → R1 48 i = ndT e0 q.1 i) ∧ R1 30 22 = 0 ∧ R1 30 23 = 0))
set_option maxHeartbeats 4000000 in
set_option maxRecDepth 100000 in
theorem c_P_apply {σ : xS} {R : xR} (hM : xsh σ mshape) (D : List (List Int × Int)) (hD : mFd R D) (hl : D.length ≤ 40) (e0 : xEn) (hE : enE (mEnv R) e0) (he : enOk (mEnv R)) (hc0 : (∀ x, 0 ≤ x → x < 6 → 1 ≤ e0.2.2.1 x ∧ e0.2.2.1 x ≤ 3) ∧ (∀ x, 0 ≤ x → x < 6 → 1 ≤ e0.2.2.2.1 x ∧ e0.2.2.2.1 x ≤ 3)) (hfd : ∀ q ∈ D, fdOk e0 q) (k : Int) (hk : -2147483648 ≤ k ∧ k < 2147483648) : Ct m_P_apply 2 0 0 [.ref (σ 30).1, vi k] σ R (Zm σ (mAp R D e0 k)) := by
  refine Ct.of [some (.ref ((σ 30).1)), some (vi k), none, none, none] rfl (by decide +kernel) (lr rfl) (fun X => ?_)
  have hthis := thisM hM
  have he1 : 0 ≤ R 30 15 ∧ R 30 15 ≤ 16 := he.1
  have hen1 : (mEnv R).1 = R 30 15 := rfl
  refine x_aload_n d_P_apply_0 0 rfl rfl ?_
  refine x_iconst d_P_apply_1 ?_
  refine x_puti 30 0 0 fp_P_66 tk_23_0 (hM.at 0 rfl) rfl rfl d_P_apply_2 (fun Q1 hQ1 => ?_)
  refine x_iload_n d_P_apply_5 1 rfl rfl ?_
  refine x_if_lt (tgt := 17) d_P_apply_6 rfl (by omega) (fun c6 => ?_) (fun c6 => ?_)
  · refine x_aload_n d_P_apply_17 0 rfl rfl ?_
    refine x_iconst d_P_apply_18 ?_
    refine x_cvm 30 (As := [vi 1]) (c_P_fails (R := Q1) hM 1) cs_P_86 hthis rfl rfl (lr rfl) d_P_apply_19 (lr rfl) ⟨lr rfl, lr rfl⟩ (fun z2 Q3 hQ3 => ?_)
    exact x_iret d_P_apply_22 rfl (lr rfl) (lr rfl) (⟨_, rfl, rfl, fun p q a b c d => by rw [hQ3.2, xr_up rfl (by omega)]; exact xr_up hQ1 (by omega), Or.inl ⟨by omega, by rw [hQ3.2, xr_s rfl], fun i => by rw [hQ3.2, xr_o rfl (by decide)]; exact xr_o hQ1 (by decide), by rw [hQ3.2, xr_d rfl (by decide)]; exact xr_d hQ1 (by decide), by rw [hQ3.2, xr_d rfl (by decide)]; exact xr_d hQ1 (by decide), by rw [hQ3.2, xr_d rfl (by decide)]; exact xr_d hQ1 (by decide)⟩⟩)
  · refine x_iload_n d_P_apply_9 1 rfl rfl ?_
    refine x_aload_n d_P_apply_10 0 rfl rfl ?_
    refine x_geti 30 22 22 (D.length : Int) fl_P_73 tk_23_22 (hM.at 0 rfl) rfl rfl ((xr_d hQ1 (by decide)).trans hD.1) d_P_apply_11 ?_
    refine x_icmp_lt (tgt := 23) d_P_apply_14 rfl (by omega) (by omega) (fun c14 => ?_) (fun c14 => ?_)
    · refine x_iconst d_P_apply_23 ?_
      refine x_istore_n d_P_apply_24 2 rfl [some (.ref ((σ 30).1)), some (vi k), some (vi 0), none, none] rfl rfl (lr rfl) ?_
      have hkl : k.toNat < D.length := by omega
      obtain ⟨q, hq⟩ : ∃ q, D[k.toNat]? = some q := ⟨_, List.getElem?_eq_getElem hkl⟩
      have hok := hfd q (List.mem_of_getElem? hq)
      have hst : ∀ i : Int, 0 ≤ i → i < 7 → R 55 (7 * k + i) = if i < (q.1.length : Int) then q.1.getD (q.1.length - 1 - i.toNat) 0 else -1 := fun i a b => by
        have := (hD.2 k.toNat q hq (by omega)).1 i.toNat (by omega)
        rw [show ((k.toNat : Nat) : Int) = k by omega, show ((i.toNat : Nat) : Int) = i by omega] at this
        rw [this]
        by_cases c0 : i < (q.1.length : Int)
        · rw [if_pos c0, if_pos (by omega)]
        · rw [if_neg c0, if_neg (by omega)]
      have hl1 : ∀ (m : Nat) (n : Int) (R1 : xR), (7 - n).toNat = m → (0 ≤ n ∧ n ≤ (q.1.length : Int)) → (∀ p q, p ≠ 57 → ¬ (p = 30 ∧ q = 0) → R1 p q = R p q) → (R1 30 0 = 0) → (∀ i : Int, 0 ≤ i → i < n → R1 57 i = q.1.getD (q.1.length - 1 - i.toNat) 0) → V X m_P_apply (2, 0, 0, Zm σ (mAp R D e0 k)) σ R1 0 0 25 [some (.ref ((σ 30).1)), some (vi k), some (vi n), none, none] [] := by
        intro m
        induction m using Nat.strongRecOn with
        | _ m ih =>
          intro n R1 hm hn1 hkp h00 hrw
          have hlen6 := hok.2.2.2.2.1
          refine x_iload_n d_P_apply_25 2 rfl rfl ?_
          refine x_bipush d_P_apply_26 rfl ?_
          refine x_icmp_ge (tgt := 68) d_P_apply_28 rfl (by omega) (by omega) (fun c28 => ?_) (fun c28 => ?_)
          · omega
          · have hlen6 := hok.2.2.2.2.1
            have hs9 := hst n (by omega) (by omega)
            have hr9 : -1 ≤ R 55 (7 * k + n) ∧ R 55 (7 * k + n) ≤ 7 := by
              rw [hs9]
              by_cases c0 : n < (q.1.length : Int)
              · rw [if_pos c0]
                have := hok.1.get (q.1.length - 1 - n.toNat) (by omega)
                omega
              · rw [if_neg c0]; omega
            refine x_aload_n d_P_apply_31 0 rfl rfl ?_
            refine x_getc 30 24 55 55 fl_P_57 tk_23_24 (hM.at 0 rfl) rfl rfl d_P_apply_32 ?_
            refine x_bipush d_P_apply_35 rfl ?_
            refine x_iload_n d_P_apply_37 1 rfl rfl ?_
            refine x_imul d_P_apply_38 ?_
            refine x_iload_n d_P_apply_39 2 rfl rfl ?_
            refine x_iadd d_P_apply_40 ?_
            refine x_iald 55 (R 55 (7 * k + n)) (hM.at 16 rfl) rfl ⟨by decide, rfl, by decide⟩ rfl (by omega) (hkp 55 _ (by decide) (by omega)) d_P_apply_41 ?_
            refine x_if_lt (tgt := 68) d_P_apply_42 rfl (by omega) (fun c42 => ?_) (fun c42 => ?_)
            · have hge : ¬ n < (q.1.length : Int) := fun c0 => by
                rw [if_pos c0] at hs9
                have := hok.1.get (q.1.length - 1 - n.toNat) (by omega)
                omega
              refine x_aload_n d_P_apply_68 0 rfl rfl ?_
              refine x_iload_n d_P_apply_69 2 rfl rfl ?_
              have hnl : n = (q.1.length : Int) := by omega
              have hfr : mFz R R1 := fun p q a b c d e f => hkp p q e (by omega)
              have eE : mEnv R1 = mEnv R := hfr.env (hkp 30 16 (by decide) (by decide))
              have hrow : mRow R1 q.1 := mRow.of (fun i hi => (hrw i (by omega) (by omega)).trans (by rw [Int.toNat_natCast]))
              refine x_cvm 30 (As := [vi n]) (c_P_follows (R := R1) hM (eE.symm ▸ he) q.1 hrow hok.1 n hnl (by omega)) cs_P_155 hthis rfl rfl (lr rfl) d_P_apply_70 (lr rfl) ⟨lr rfl, lr rfl⟩ (fun z1 Q2 hQ2 => ?_)
              have hzr := mFw.rng hQ2 eE he hok.1
              have hz0 : 0 ≤ z1 := by
                by_cases c0 : z1 < 0
                · exact absurd ⟨hE.symm.v hok.2.1, by rw [(hE.p q.1).2.2.1]; exact hok.2.2.1⟩ (mFw.nay hQ2 eE he hok.1 c0)
                · omega
              obtain ⟨hv1, hv2, hv3, hv4, hv5, hv6⟩ := mFw.yes hQ2 eE hz0
              have hrng := ndV.rng he hok.1 hv1
              have e1 := (hE.p q.1).1
              have e2 := (hE.p q.1).2.1
              have hE1 := hE.1
              have hsz : (ndP (mEnv R) q.1).1 ≤ (ndP (mEnv R) q.1).2.1 + 3 := by
                have he0 : enOk e0 := ⟨by rw [← hE.1]; exact he.1, fun k a b => by rw [← hE.2.1]; exact he.2.1 k a (by rw [hE.1]; exact b), hc0.1, hc0.2, by rw [← hE.1, ← hE.2.2]; exact he.2.2.2.2⟩
                have h2 := (ndV.rng he0 hok.1 hok.2.1).2.1
                have h3 := hok.2.2.2.1
                omega
              have hq1 := hQ2.1
              have hN3 : ndN e0 q.1 = (ndP (mEnv R) q.1).1 + (R 30 15 - (ndP (mEnv R) q.1).2.1) := (hE.t q.1).2.symm
              have hkk : ∀ p q, p ≠ 49 → p ≠ 57 → ¬ (p = 30 ∧ (q = 0 ∨ q = 15 ∨ q = 22 ∨ q = 23 ∨ q = 27 ∨ q = 28)) → Q2 p q = R p q := fun p q b c d => (hq1 p q b (by omega)).trans (hkp p q c (by omega))
              have k15 : Q2 30 15 = R 30 15 := (hq1 30 15 (by decide) (by decide)).trans (hkp 30 15 (by decide) (by decide))
              refine x_istore_n d_P_apply_73 3 rfl [some (.ref ((σ 30).1)), some (vi k), some (vi n), some (vi z1), none] rfl rfl (lr rfl) ?_
              refine x_iload_n d_P_apply_74 3 rfl rfl ?_
              refine x_if_lt (tgt := 97) d_P_apply_75 rfl (by omega) (fun c75 => ?_) (fun c75 => ?_)
              · omega
              · refine x_aload_n d_P_apply_78 0 rfl rfl ?_
                refine x_geti 30 27 27 ((ndP (mEnv R) q.1).1) fl_P_149 tk_23_27 (hM.at 0 rfl) rfl rfl hv4 d_P_apply_79 ?_
                refine x_aload_n d_P_apply_82 0 rfl rfl ?_
                refine x_geti 30 15 15 (R 30 15) fl_P_135 tk_23_15 (hM.at 0 rfl) rfl rfl k15 d_P_apply_83 ?_
                refine x_iadd d_P_apply_86 ?_
                refine x_aload_n d_P_apply_87 0 rfl rfl ?_
                refine x_geti 30 28 28 ((ndP (mEnv R) q.1).2.1) fl_P_152 tk_23_28 (hM.at 0 rfl) rfl rfl hv5 d_P_apply_88 ?_
                refine x_isub d_P_apply_91 ?_
                refine x_bipush d_P_apply_92 rfl ?_
                refine x_icmp_le (tgt := 103) d_P_apply_94 rfl (by omega) (by omega) (fun c94 => ?_) (fun c94 => ?_)
                · refine x_aload_n d_P_apply_103 0 rfl rfl ?_
                  refine x_geti 30 28 28 (Q2 30 28) fl_P_152 tk_23_28 (hM.at 0 rfl) rfl rfl rfl d_P_apply_104 ?_
                  refine x_istore d_P_apply_107 [some (.ref ((σ 30).1)), some (vi k), some (vi n), some (vi z1), some (vi (Q2 30 28))] rfl rfl (lr rfl) ?_
                  have hl2 : ∀ (m : Nat) (j : Int) (R3 : xR), (16 - j).toNat = m → ((ndP (mEnv R) q.1).2.1 ≤ j ∧ j ≤ R 30 15) → (∀ p q, p ≠ 49 → p ≠ 57 → ¬ (p = 30 ∧ (q = 0 ∨ q = 15 ∨ q = 22 ∨ q = 23 ∨ q = 27 ∨ q = 28)) → R3 p q = R p q) → (R3 30 15 = R 30 15) → (R3 30 27 = (ndP (mEnv R) q.1).1 + (j - (ndP (mEnv R) q.1).2.1)) → (R3 30 0 = 0) → (∀ i, 0 ≤ i → i < (ndP (mEnv R) q.1).1 + (j - (ndP (mEnv R) q.1).2.1) → R3 49 i = ndT (mEnv R) q.1 i) → V X m_P_apply (2, 0, 0, Zm σ (mAp R D e0 k)) σ R3 0 0 109 [some (.ref ((σ 30).1)), some (vi k), some (vi n), some (vi z1), some (vi j)] [] := by
                    intro m
                    induction m using Nat.strongRecOn with
                    | _ m ih2 =>
                      intro j R3 hm2 hj1 hkp2 f15 f27 f00 ffr
                      refine x_iload d_P_apply_109 rfl ?_
                      refine x_aload_n d_P_apply_111 0 rfl rfl ?_
                      refine x_geti 30 15 15 (R 30 15) fl_P_135 tk_23_15 (hM.at 0 rfl) rfl rfl f15 d_P_apply_112 ?_
                      refine x_icmp_ge (tgt := 150) d_P_apply_115 rfl (by omega) (by omega) (fun c115 => ?_) (fun c115 => ?_)
                      · refine x_aload_n d_P_apply_150 0 rfl rfl ?_
                        refine x_aload_n d_P_apply_151 0 rfl rfl ?_
                        refine x_geti 30 27 27 ((ndP (mEnv R) q.1).1 + (j - (ndP (mEnv R) q.1).2.1)) fl_P_149 tk_23_27 (hM.at 0 rfl) rfl rfl f27 d_P_apply_152 ?_
                        refine x_puti 30 15 15 fp_P_135 tk_23_15 (hM.at 0 rfl) rfl rfl d_P_apply_155 (fun Q1 hQ1 => ?_)
                        refine x_iconst d_P_apply_158 ?_
                        refine x_istore d_P_apply_159 [some (.ref ((σ 30).1)), some (vi k), some (vi n), some (vi z1), some (vi 0)] rfl rfl (lr rfl) ?_
                        have hNT := hE.t q.1
                        obtain ⟨N, hN⟩ : ∃ N, N = ndN (mEnv R) q.1 := ⟨_, rfl⟩
                        have hN2 := hN
                        unfold ndN at hN2
                        have hN3 : ndN (mEnv R) q.1 = ndN e0 q.1 := hNT.2
                        have hl3 : ∀ (m : Nat) (j : Int) (R4 : xR), (16 - j).toNat = m → (0 ≤ j ∧ j ≤ N) → (∀ p q, p ≠ 48 → p ≠ 49 → p ≠ 57 → ¬ (p = 30 ∧ (q = 0 ∨ q = 15 ∨ q = 22 ∨ q = 23 ∨ q = 27 ∨ q = 28)) → R4 p q = R p q) → (R4 30 15 = N) → (R4 30 27 = N) → (R4 30 0 = 0) → (∀ i, 0 ≤ i → i < N → R4 49 i = ndT (mEnv R) q.1 i) → (∀ i, 0 ≤ i → i < j → R4 48 i = ndT (mEnv R) q.1 i) → V X m_P_apply (2, 0, 0, Zm σ (mAp R D e0 k)) σ R4 0 0 161 [some (.ref ((σ 30).1)), some (vi k), some (vi n), some (vi z1), some (vi j)] [] := by
                          intro m
                          induction m using Nat.strongRecOn with
                          | _ m ih3 =>
                            intro j R4 hm3 hj1 hkp3 g15 g27 g00 gfr gwd
                            refine x_iload d_P_apply_161 rfl ?_
                            refine x_aload_n d_P_apply_163 0 rfl rfl ?_
                            refine x_geti 30 27 27 N fl_P_149 tk_23_27 (hM.at 0 rfl) rfl rfl g27 d_P_apply_164 ?_
                            refine x_icmp_ge (tgt := 190) d_P_apply_167 rfl (by omega) (by omega) (fun c167 => ?_) (fun c167 => ?_)
                            · refine x_aload_n d_P_apply_190 0 rfl rfl ?_
                              refine x_cvv 30 (As := []) (c_P_forget (R := R4) hM) cs_P_96 hthis rfl rfl (lr rfl) d_P_apply_191 (lr rfl) ⟨lr rfl, lr rfl⟩ (fun Q1 hQ1 => ?_)
                              refine x_aload_n d_P_apply_194 0 rfl rfl ?_
                              refine x_geti 30 15 15 N fl_P_135 tk_23_15 (hM.at 0 rfl) rfl rfl (by rw [hQ1, xr_d rfl (by decide), xr_d rfl (by decide)]; exact g15) d_P_apply_195 ?_
                              exact x_iret d_P_apply_198 rfl (lr rfl) (lr rfl) (⟨_, rfl, rfl, fun p q a b c d => by rw [hQ1, xr_up rfl (by omega), xr_up rfl (by omega)]; exact hkp3 p q a b c d, Or.inr (Or.inr ⟨by omega, q, hq, by omega, by rw [hQ1, xr_d rfl (by decide), xr_d rfl (by decide)]; exact g00, by omega, by rw [hQ1, xr_d rfl (by decide), xr_d rfl (by decide), g15]; omega, fun i a b => by rw [hQ1, xr_o rfl (by decide), xr_o rfl (by decide), gwd i a (by omega), hNT.1], by rw [hQ1, xr_d rfl (by decide), xr_s rfl], by rw [hQ1, xr_s rfl]⟩)⟩)
                            · refine x_aload_n d_P_apply_170 0 rfl rfl ?_
                              refine x_getc 30 17 48 48 fl_P_42 tk_23_17 (hM.at 0 rfl) rfl rfl d_P_apply_171 ?_
                              refine x_iload d_P_apply_174 rfl ?_
                              refine x_aload_n d_P_apply_176 0 rfl rfl ?_
                              refine x_getc 30 18 49 49 fl_P_45 tk_23_18 (hM.at 0 rfl) rfl rfl d_P_apply_177 ?_
                              refine x_iload d_P_apply_180 rfl ?_
                              refine x_iald 49 (ndT (mEnv R) q.1 j) (hM.at 12 rfl) rfl ⟨by decide, rfl, by decide⟩ rfl (by omega) (gfr j (by omega) (by omega)) d_P_apply_182 ?_
                              refine x_iast 48 (hM.at 11 rfl) rfl ⟨by decide, rfl, by decide⟩ rfl (by omega) d_P_apply_183 (fun Q2 hQ2 => ?_)
                              refine x_iinc d_P_apply_184 rfl [some (.ref ((σ 30).1)), some (vi k), some (vi n), some (vi z1), some (vi (j + 1))] rfl rfl (lr rfl) ?_
                              refine x_goto (tgt := 161) d_P_apply_187 rfl ?_
                              exact ih3 _ (by omega) (j + 1) Q2 rfl (by omega) (fun p q a b c d => (xr_o hQ2 a).trans (hkp3 p q a b c d)) ((xr_o hQ2 (by decide)).trans g15) ((xr_o hQ2 (by decide)).trans g27) ((xr_o hQ2 (by decide)).trans g00) (fun i a b => (xr_o hQ2 (by decide)).trans (gfr i a b)) (fun i a b => by
                                by_cases e : i = j
                                · rw [e, xr_s hQ2]
                                · rw [xr_d hQ2 e]; exact gwd i a (by omega))
                        exact hl3 _ 0 Q1 rfl (by omega) (fun p q a b c d => (xr_up hQ1 (by omega)).trans (hkp2 p q b c d)) ((xr_s hQ1).trans (by omega)) ((xr_d hQ1 (by decide)).trans (f27.trans (by omega))) ((xr_d hQ1 (by decide)).trans f00) (fun i a b => (xr_o hQ1 (by decide)).trans (ffr i a (by omega))) (fun i a b => by omega)
                      · refine x_aload_n d_P_apply_118 0 rfl rfl ?_
                        refine x_getc 30 18 49 49 fl_P_45 tk_23_18 (hM.at 0 rfl) rfl rfl d_P_apply_119 ?_
                        refine x_aload_n d_P_apply_122 0 rfl rfl ?_
                        refine x_geti 30 27 27 ((ndP (mEnv R) q.1).1 + (j - (ndP (mEnv R) q.1).2.1)) fl_P_149 tk_23_27 (hM.at 0 rfl) rfl rfl f27 d_P_apply_123 ?_
                        refine x_aload_n d_P_apply_126 0 rfl rfl ?_
                        refine x_getc 30 17 48 48 fl_P_42 tk_23_17 (hM.at 0 rfl) rfl rfl d_P_apply_127 ?_
                        refine x_iload d_P_apply_130 rfl ?_
                        refine x_iald 48 (R 48 j) (hM.at 11 rfl) rfl ⟨by decide, rfl, by decide⟩ rfl (by omega) (hkp2 48 j (by decide) (by decide) (by omega)) d_P_apply_132 ?_
                        refine x_iast 49 (hM.at 12 rfl) rfl ⟨by decide, rfl, by decide⟩ rfl (by omega) d_P_apply_133 (fun Q2 hQ2 => ?_)
                        refine x_aload_n d_P_apply_134 0 rfl rfl ?_
                        refine x_dup d_P_apply_135 rfl ?_
                        refine x_geti 30 27 27 ((ndP (mEnv R) q.1).1 + (j - (ndP (mEnv R) q.1).2.1)) fl_P_149 tk_23_27 (hM.at 0 rfl) rfl rfl ((xr_o hQ2 (by decide)).trans f27) d_P_apply_136 ?_
                        refine x_iconst d_P_apply_139 ?_
                        refine x_iadd d_P_apply_140 ?_
                        refine x_puti 30 27 27 fp_P_149 tk_23_27 (hM.at 0 rfl) rfl rfl d_P_apply_141 (fun Q3 hQ3 => ?_)
                        refine x_iinc d_P_apply_144 rfl [some (.ref ((σ 30).1)), some (vi k), some (vi n), some (vi z1), some (vi (j + 1))] rfl rfl (lr rfl) ?_
                        refine x_goto (tgt := 109) d_P_apply_147 rfl ?_
                        exact ih2 _ (by omega) (j + 1) Q3 rfl (by omega) (fun p q a b d => (xr_up hQ3 (by omega)).trans ((xr_o hQ2 a).trans (hkp2 p q a b d))) ((xr_d hQ3 (by decide)).trans ((xr_o hQ2 (by decide)).trans f15)) ((xr_s hQ3).trans (by omega)) ((xr_d hQ3 (by decide)).trans ((xr_o hQ2 (by decide)).trans f00)) (fun i a b => by
                          rw [xr_o hQ3 (by decide)]
                          by_cases e : i = (ndP (mEnv R) q.1).1 + (j - (ndP (mEnv R) q.1).2.1)
                          · rw [e, xr_s hQ2]
                            unfold ndT
                            rw [if_neg (by omega)]
                            show R 48 j = R 48 _
                            congr 1
                            omega
                          · rw [xr_d hQ2 e]; exact ffr i a (by omega))
                  exact hl2 _ (Q2 30 28) Q2 rfl (by omega) (hkk) k15 (by omega) ((hq1 30 0 (by decide) (by decide)).trans h00) (fun i a b => by unfold ndT; rw [if_pos (by omega)]; exact hv6 i a (by omega))
                · refine x_aload_n d_P_apply_97 0 rfl rfl ?_
                  refine x_iconst d_P_apply_98 ?_
                  refine x_cvm 30 (As := [vi 2]) (c_P_fails (R := Q2) hM 2) cs_P_86 hthis rfl rfl (lr rfl) d_P_apply_99 (lr rfl) ⟨lr rfl, lr rfl⟩ (fun z3 Q4 hQ4 => ?_)
                  exact x_iret d_P_apply_102 rfl (lr rfl) (lr rfl) (⟨_, rfl, rfl, fun p q a b c d => by rw [hQ4.2, xr_up rfl (by omega)]; exact (hkk) p q b c d, Or.inr (Or.inl ⟨by omega, q, hq, by omega, by rw [hQ4.2, xr_s rfl], fun i => by rw [hQ4.2, xr_o rfl (by decide)]; exact (hkk) 48 i (by decide) (by decide) (by omega), by rw [hQ4.2, xr_d rfl (by decide)]; exact k15, by rw [hQ4.2, xr_d rfl (by decide)]; exact (hq1 30 22 (by decide) (by decide)).trans (hkp 30 22 (by decide) (by decide)), by rw [hQ4.2, xr_d rfl (by decide)]; exact (hq1 30 23 (by decide) (by decide)).trans (hkp 30 23 (by decide) (by decide))⟩)⟩)
            · have hlt : n < (q.1.length : Int) := by
                by_cases c0 : n < (q.1.length : Int)
                · exact c0
                · rw [if_neg c0] at hs9; omega
              rw [if_pos hlt] at hs9
              have hg9 := hok.1.get (q.1.length - 1 - n.toNat) (by omega)
              refine x_aload_n d_P_apply_45 0 rfl rfl ?_
              refine x_getc 30 26 57 57 fl_P_63 tk_23_26 (hM.at 0 rfl) rfl rfl d_P_apply_46 ?_
              refine x_iload_n d_P_apply_49 2 rfl rfl ?_
              refine x_aload_n d_P_apply_50 0 rfl rfl ?_
              refine x_getc 30 24 55 55 fl_P_57 tk_23_24 (hM.at 0 rfl) rfl rfl d_P_apply_51 ?_
              refine x_bipush d_P_apply_54 rfl ?_
              refine x_iload_n d_P_apply_56 1 rfl rfl ?_
              refine x_imul d_P_apply_57 ?_
              refine x_iload_n d_P_apply_58 2 rfl rfl ?_
              refine x_iadd d_P_apply_59 ?_
              refine x_iald 55 (q.1.getD (q.1.length - 1 - n.toNat) 0) (hM.at 16 rfl) rfl ⟨by decide, rfl, by decide⟩ rfl (by omega) ((hkp 55 _ (by decide) (by omega)).trans hs9) d_P_apply_60 ?_
              refine x_iast 57 (hM.at 18 rfl) rfl ⟨by decide, rfl, by decide⟩ rfl (by omega) d_P_apply_61 (fun Q5 hQ5 => ?_)
              refine x_iinc d_P_apply_62 rfl [some (.ref ((σ 30).1)), some (vi k), some (vi (n + 1)), none, none] rfl rfl (lr rfl) ?_
              refine x_goto (tgt := 25) d_P_apply_65 rfl ?_
              exact ih _ (by omega) (n + 1) Q5 rfl (by omega) (fun p q a b => (xr_o hQ5 a).trans (hkp p q a b)) ((xr_o hQ5 (by decide)).trans h00) (fun i a b => by
                by_cases e : i = n
                · rw [e, xr_s hQ5]
                · rw [xr_d hQ5 e]; exact hrw i a (by omega))
      exact hl1 _ 0 Q1 rfl (by omega) (fun p q a b => xr_up hQ1 (by omega)) (xr_s hQ1) (fun i a b => by omega)
    · refine x_aload_n d_P_apply_17 0 rfl rfl ?_
      refine x_iconst d_P_apply_18 ?_
      refine x_cvm 30 (As := [vi 1]) (c_P_fails (R := Q1) hM 1) cs_P_86 hthis rfl rfl (lr rfl) d_P_apply_19 (lr rfl) ⟨lr rfl, lr rfl⟩ (fun z4 Q5 hQ5 => ?_)
      exact x_iret d_P_apply_22 rfl (lr rfl) (lr rfl) (⟨_, rfl, rfl, fun p q a b c d => by rw [hQ5.2, xr_up rfl (by omega)]; exact xr_up hQ1 (by omega), Or.inl ⟨by omega, by rw [hQ5.2, xr_s rfl], fun i => by rw [hQ5.2, xr_o rfl (by decide)]; exact xr_o hQ1 (by decide), by rw [hQ5.2, xr_d rfl (by decide)]; exact xr_d hQ1 (by decide), by rw [hQ5.2, xr_d rfl (by decide)]; exact xr_d hQ1 (by decide), by rw [hQ5.2, xr_d rfl (by decide)]; exact xr_d hQ1 (by decide)⟩⟩)
