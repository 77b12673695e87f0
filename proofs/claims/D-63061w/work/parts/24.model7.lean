/-! the model: ended, wrongAt, parsed (walks printed by gen/model7.py) -/
set_option maxHeartbeats 4000000 in
set_option maxRecDepth 100000 in
theorem c_P_ended {σ : xS} {R : xR} (hM : xsh σ mshape) (h36 : ∀ r, 0 ≤ r → r ≤ 10 → 0 ≤ R 36 r ∧ R 36 r ≤ 4) (h7 : ∀ i, 0 ≤ i → i < 2310 → s7 (R 44 i)) (s t : Int) (hs : 0 ≤ s ∧ s ≤ 40) (ht : 0 ≤ t ∧ t < 7) : Ct m_P_ended 1 0 0 [.ref (σ 30).1, vi s, vi t] σ R (Zm σ (fun z R1 => R1 = R ∧ mEn R s t z)) := by
  refine Ct.of [some (.ref ((σ 30).1)), some (vi s), some (vi t), none] rfl (by decide +kernel) (lr rfl) (fun X => ?_)
  have hl : ∀ (m : Nat) (r : Int), (11 - r).toNat = m → (0 ≤ r ∧ r ≤ 11) → (∀ r2, 0 ≤ r2 → r2 < r → ¬ hb (R 44 (55 * s + 5 * r2 + R 36 r2)) t) → V X m_P_ended (1, 0, 0, Zm σ (fun z R1 => R1 = R ∧ mEn R s t z)) σ R 0 0 2 [some (.ref ((σ 30).1)), some (vi s), some (vi t), some (vi r)] [] := by
    intro m
    induction m using Nat.strongRecOn with
    | _ m ih =>
      intro r hm hr1 hno
      refine x_iload_n d_P_ended_2 3 rfl rfl ?_
      refine x_bipush d_P_ended_3 rfl ?_
      refine x_icmp_ge (tgt := 44) d_P_ended_5 rfl (by omega) (by omega) (fun c5 => ?_) (fun c5 => ?_)
      · refine x_iconst d_P_ended_44 ?_
        exact x_iret d_P_ended_45 rfl (lr rfl) (lr rfl) (⟨_, rfl, rfl, rfl, Or.inl ⟨rfl, fun r2 a b => hno r2 a (by omega)⟩⟩)
      · have g36 := h36 r (by omega) (by omega)
        have g7 := h7 (55 * s + 5 * r + R 36 r) (by omega) (by omega)
        refine x_aload_n d_P_ended_8 0 rfl rfl ?_
        refine x_getc 30 13 44 44 fl_P_36 tk_23_13 (hM.at 0 rfl) rfl rfl d_P_ended_9 ?_
        refine x_bipush d_P_ended_12 rfl ?_
        refine x_iload_n d_P_ended_14 1 rfl rfl ?_
        refine x_imul d_P_ended_15 ?_
        refine x_iconst d_P_ended_16 ?_
        refine x_iload_n d_P_ended_17 3 rfl rfl ?_
        refine x_imul d_P_ended_18 ?_
        refine x_iadd d_P_ended_19 ?_
        refine x_aload_n d_P_ended_20 0 rfl rfl ?_
        refine x_getc 30 5 36 36 fl_P_17 tk_23_5 (hM.at 0 rfl) rfl rfl d_P_ended_21 ?_
        refine x_iload_n d_P_ended_24 3 rfl rfl ?_
        refine x_iald 36 (R 36 r) (hM.at 3 rfl) rfl ⟨by decide, rfl, by decide⟩ rfl (by omega) rfl d_P_ended_25 ?_
        refine x_iadd d_P_ended_26 ?_
        refine x_iald 44 (R 44 (((55 * s) + (5 * r)) + (R 36 r))) (hM.at 9 rfl) rfl ⟨by decide, rfl, by decide⟩ rfl (by omega) rfl d_P_ended_27 ?_
        refine x_iload_n d_P_ended_28 2 rfl rfl ?_
        refine x_ishr d_P_ended_29 (ishr (R 44 (55 * s + 5 * r + R 36 r)) t) (iI_ishr g7 ht) ?_
        refine x_iconst d_P_ended_30 ?_
        refine x_iand d_P_ended_31 (zc (hb (R 44 (55 * s + 5 * r + R 36 r)) t)) (iI_bit g7 ht) ?_
        refine x_iconst d_P_ended_32 ?_
        refine x_icmp_ne (tgt := 38) d_P_ended_33 rfl (by have := zc_or (hb (R 44 (55 * s + 5 * r + R 36 r)) t); omega) (by omega) (fun c33 => ?_) (fun c33 => ?_)
        · refine x_iinc d_P_ended_38 rfl [some (.ref ((σ 30).1)), some (vi s), some (vi t), some (vi (r + 1))] rfl rfl (lr rfl) ?_
          refine x_goto (tgt := 2) d_P_ended_41 rfl ?_
          exact ih _ (by omega) (r + 1) rfl (by omega) (fun r2 a b => by
            by_cases e : r2 = r
            · rw [e]; intro q; rw [zc_t q] at c33; exact c33 rfl
            · exact hno r2 a (by omega))
        · refine x_iload_n d_P_ended_36 3 rfl rfl ?_
          exact x_iret d_P_ended_37 rfl (lr rfl) (lr rfl) (⟨_, rfl, rfl, rfl, Or.inr ⟨by omega, zc_eq1.mp c33⟩⟩)
  refine x_iconst d_P_ended_0 ?_
  refine x_istore_n d_P_ended_1 3 rfl [some (.ref ((σ 30).1)), some (vi s), some (vi t), some (vi 0)] rfl rfl (lr rfl) ?_
  exact hl _ 0 rfl (by omega) (fun r2 a b => by omega)
set_option maxHeartbeats 4000000 in
set_option maxRecDepth 100000 in
theorem c_P_wrongAt {σ : xS} {R : xR} (hM : xsh σ mshape) {a : auT} (hco : mCo R a) (h7 : ∀ i, 0 ≤ i → i < 2310 → s7 (R 44 i)) (n whole : Int) (hn : 0 ≤ n ∧ n ≤ 19) (hwh : whole = 0 ∨ whole = 1) (hwd : ∀ k, 0 ≤ k → k < n → 0 ≤ R 49 k ∧ R 49 k < 6) : Ct m_P_wrongAt 2 0 0 [.ref (σ 30).1, vi n, vi whole] σ R (Zm σ (fun z R1 => (∀ p q, p ≠ 50 → R1 p q = R p q) ∧ ∃ z0, pR (gM R) a (R 49) n z0 ∧ z = if whole = 0 then (if z0 < 0 then n else z0) else z0)) := by
  refine Ct.of [some (.ref ((σ 30).1)), some (vi n), some (vi whole), none, none, none, none, none, none] rfl (by decide +kernel) (lr rfl) (fun X => ?_)
  have hthis := thisM hM
  have hw := hco.w
  have ho := hco.o
  have hc := hco.c
  obtain ⟨M0, z0, hz0⟩ := PR.all hw ho hc hn hwd
  have hp0 : pR (gM R) a (R 49) n z0 := ⟨M0, hz0⟩
  have hl : ∀ (m : Nat) (m0 : Nat) (S : xSt) (top : Int) (k : Int) (R1 : xR), m0 = m → (top = (S.length : Int)) → (0 ≤ k ∧ k ≤ n) → (pPath a S) → (mStk R1 S) → (PR (gM R) a (R 49) n m0 S k z0) → (∀ p q, p ≠ 50 → R1 p q = R p q) → V X m_P_wrongAt (2, 0, 0, Zm σ (fun z R1 => (∀ p q, p ≠ 50 → R1 p q = R p q) ∧ ∃ z0, pR (gM R) a (R 49) n z0 ∧ z = if whole = 0 then (if z0 < 0 then n else z0) else z0)) σ R1 0 0 12 [some (.ref ((σ 30).1)), some (vi n), some (vi whole), some (vi top), some (vi k), none, none, none, none] [] := by
    intro m
    induction m using Nat.strongRecOn with
    | _ m ih =>
      intro m0 S top k R1 hm htop hk1 hpath hstk hPR hkp
      obtain ⟨m1, rfl⟩ : ∃ m1, m0 = m1 + 1 := by
        cases m0 with
        | zero => exact hPR.elim
        | succ m1 => exact ⟨m1, rfl⟩
      have hrg := hpath.rg ho
      have h40 := ho.2.2.1
      have hlen := hPR.1
      have hla := la_rng hwd (k := k) (by omega)
      have hstep := hPR.2
      refine x_iload d_P_wrongAt_12 rfl ?_
      refine x_iload_n d_P_wrongAt_14 1 rfl rfl ?_
      refine x_icmp_lt (tgt := 22) d_P_wrongAt_15 rfl (by omega) (by omega) (fun c15 => ?_) (fun c15 => ?_)
      · refine x_iload d_P_wrongAt_22 rfl ?_
        refine x_iload_n d_P_wrongAt_24 1 rfl rfl ?_
        refine x_icmp_ge (tgt := 38) d_P_wrongAt_25 rfl (by omega) (by omega) (fun c25 => ?_) (fun c25 => ?_)
        · omega
        · have g49 := hwd k (by omega) (by omega)
          have ela : la (R 49) n k = R 49 k := if_pos (by omega)
          refine x_aload_n d_P_wrongAt_28 0 rfl rfl ?_
          refine x_getc 30 18 49 49 fl_P_45 tk_23_18 (hM.at 0 rfl) rfl rfl d_P_wrongAt_29 ?_
          refine x_iload d_P_wrongAt_32 rfl ?_
          refine x_iald 49 (R 49 k) (hM.at 12 rfl) rfl ⟨by decide, rfl, by decide⟩ rfl (by omega) (hkp 49 k (by decide)) d_P_wrongAt_34 ?_
          refine x_goto (tgt := 40) d_P_wrongAt_35 rfl ?_
          refine x_istore d_P_wrongAt_40 [some (.ref ((σ 30).1)), some (vi n), some (vi whole), some (vi top), some (vi k), some (vi (R 49 k)), none, none, none] rfl rfl (lr rfl) ?_
          refine x_aload_n d_P_wrongAt_42 0 rfl rfl ?_
          refine x_getc 30 19 50 50 fl_P_48 tk_23_19 (hM.at 0 rfl) rfl rfl d_P_wrongAt_43 ?_
          refine x_iload_n d_P_wrongAt_46 3 rfl rfl ?_
          refine x_iald 50 (tp S) (hM.at 13 rfl) rfl ⟨by decide, rfl, by decide⟩ rfl (by omega) (by rw [htop]; exact hstk.top) d_P_wrongAt_47 ?_
          refine x_istore d_P_wrongAt_48 [some (.ref ((σ 30).1)), some (vi n), some (vi whole), some (vi top), some (vi k), some (vi (R 49 k)), some (vi (tp S)), none, none] rfl rfl (lr rfl) ?_
          refine x_iload d_P_wrongAt_50 rfl ?_
          refine x_bipush d_P_wrongAt_52 rfl ?_
          refine x_icmp_ge (tgt := 73) d_P_wrongAt_54 rfl (by omega) (by omega) (fun c54 => ?_) (fun c54 => ?_)
          · omega
          · have hnx := ho.2.2.2 (tp S) (R 49 k) hrg.1 hrg.2 (by omega) (by omega)
            have hnx2 : -1 ≤ a.2.2 (12 * tp S + R 49 k) ∧ a.2.2 (12 * tp S + R 49 k) ≤ 40 := by
              have := ho.2.2.1
              rcases hnx with ⟨q, -⟩ | ⟨q, -⟩ <;> omega
            refine x_aload_n d_P_wrongAt_57 0 rfl rfl ?_
            refine x_getc 30 14 45 45 fl_P_39 tk_23_14 (hM.at 0 rfl) rfl rfl d_P_wrongAt_58 ?_
            refine x_bipush d_P_wrongAt_61 rfl ?_
            refine x_iload d_P_wrongAt_63 rfl ?_
            refine x_imul d_P_wrongAt_65 ?_
            refine x_iload d_P_wrongAt_66 rfl ?_
            refine x_iadd d_P_wrongAt_68 ?_
            refine x_iald 45 (a.2.2 (12 * tp S + R 49 k)) (hM.at 10 rfl) rfl ⟨by decide, rfl, by decide⟩ rfl (by omega) ((hkp 45 _ (by decide)).trans (hco.2.2.2.2.2 _ (by omega) (by omega))) d_P_wrongAt_69 ?_
            refine x_goto (tgt := 74) d_P_wrongAt_70 rfl ?_
            refine x_istore d_P_wrongAt_74 [some (.ref ((σ 30).1)), some (vi n), some (vi whole), some (vi top), some (vi k), some (vi (R 49 k)), some (vi (tp S)), some (vi (a.2.2 (12 * tp S + R 49 k))), none] rfl rfl (lr rfl) ?_
            refine x_iload d_P_wrongAt_76 rfl ?_
            refine x_if_lt (tgt := 85) d_P_wrongAt_78 rfl (by omega) (fun c78 => ?_) (fun c78 => ?_)
            · refine x_aload_n d_P_wrongAt_85 0 rfl rfl ?_
              refine x_iload d_P_wrongAt_86 rfl ?_
              refine x_iload d_P_wrongAt_88 rfl ?_
              refine x_cvm 30 (As := [vi (tp S), vi (R 49 k)]) (c_P_ended (R := R1) hM (fun r a b => by rw [hkp 36 r (by decide)]; exact hco.1.2.2.1 r a b) (fun i a b => by rw [hkp 44 i (by decide)]; exact h7 i a b) (tp S) (R 49 k) (by have := ho.2.2.1; omega) (by omega)) cs_P_132 hthis rfl rfl (lr rfl) d_P_wrongAt_90 (lr rfl) ⟨lr rfl, lr rfl⟩ (fun z1 Q2 hQ2 => ?_)
              obtain ⟨eR, hen⟩ := hQ2
              rw [eR]
              have hen2 : mEn R (tp S) (R 49 k) z1 := by
                unfold mEn at hen ⊢
                have e36 : R1 36 = R 36 := funext fun b => hkp 36 b (by decide)
                have e44 : R1 44 = R 44 := funext fun b => hkp 44 b (by decide)
                rw [e36, e44] at hen
                exact hen
              have hz9 : -1 ≤ z1 ∧ z1 ≤ 10 := by rcases hen2 with q | q <;> omega
              have hnshf : ¬ Shf a S (la (R 49) n k) := by
                rintro ⟨q1, q2⟩
                rw [ela] at q1 q2
                omega
              have hits : ∀ r, 0 ≤ r → r ≤ 10 → (hb (R 44 (55 * tp S + 5 * r + R 36 r)) (R 49 k) ↔ a.2.1 (tp S) r ((gM R).2.2.1 r) (la (R 49) n k)) := fun r q1 q2 => by rw [ela]; exact mEn.it hco hrg (by omega) ⟨q1, q2⟩
              refine x_istore d_P_wrongAt_93 [some (.ref ((σ 30).1)), some (vi n), some (vi whole), some (vi top), some (vi k), some (vi (R 49 k)), some (vi (tp S)), some (vi (a.2.2 (12 * tp S + R 49 k))), some (vi z1)] rfl rfl (lr rfl) ?_
              refine x_iload d_P_wrongAt_95 rfl ?_
              refine x_if_lt (tgt := 117) d_P_wrongAt_97 rfl (by omega) (fun c97 => ?_) (fun c97 => ?_)
              · have hzk : z0 = k ∨ 0 ≤ z1 := by
                  by_cases q9 : 0 ≤ z1
                  · exact Or.inr q9
                  · refine Or.inl ?_
                    have hnone := (hen2.resolve_right (fun q => by have := q.1; omega)).2
                    rcases hstep with ⟨q, -⟩ | ⟨S1, ⟨r9, -, q, -⟩, -⟩ | ⟨q, -⟩ | ⟨-, q⟩
                    · exact absurd q hnshf
                    · have hr9 := ((auItems hw ho hpath _ _ _ q).1.rng hw)
                      exact absurd ((hits r9 hr9.1 hr9.2).mpr q) (hnone r9 hr9.1 hr9.2)
                    · exact absurd ((hits 10 (by omega) (by omega)).mpr (by rw [q.1, hw.2.1]; exact q.2)) (hnone 10 (by omega) (by omega))
                    · exact q
                refine x_iload d_P_wrongAt_117 rfl ?_
                refine x_if_ge (tgt := 125) d_P_wrongAt_119 rfl (by omega) (fun c119 => ?_) (fun c119 => ?_)
                · refine x_iload d_P_wrongAt_125 rfl ?_
                  refine x_bipush d_P_wrongAt_127 rfl ?_
                  refine x_icmp_ne (tgt := 134) d_P_wrongAt_129 rfl (by omega) (by omega) (fun c129 => ?_) (fun c129 => ?_)
                  · have hi9 := (hits z1 (by omega) (by omega)).mp ((hen2.resolve_left (fun q => by have := q.1; omega)).2)
                    have hred : Red (gM R) a S (la (R 49) n k) (rd (gM R) a S z1) := ⟨z1, by omega, hi9, rfl⟩
                    have hnext : PR (gM R) a (R 49) n m1 (rd (gM R) a S z1) k z0 := by
                      rcases hstep with ⟨q, -⟩ | ⟨S1, q, q2⟩ | ⟨q, -⟩ | ⟨q, -⟩
                      · exact absurd q hnshf
                      · have := Red.fun ho hc hpath hred q; rw [this]; exact q2
                      · exact absurd q (hred.noAcc hw ho hc hpath)
                      · exact absurd (Or.inr (Or.inr ⟨_, hred⟩)) q
                    have hlen2 : (S.drop (R 36 z1).toNat).length + 1 ≤ 399 := hnext.len
                    rw [List.length_drop] at hlen2
                    have hl4 := hco.1.2.2.1 z1 (by omega) (by omega)
                    have hpl : (R 36 z1).toNat ≤ S.length := (hpath.popn ho (R 36 z1).toNat hi9 (by show R 36 z1 = _; omega)).1
                    have hrd : R1 50 (top - R 36 z1 + 1 - 1) = tp (S.drop (R 36 z1).toNat) := by
                      have := hstk (R 36 z1).toNat hpl
                      rw [show top - R 36 z1 + 1 - 1 = (S.length : Int) - (((R 36 z1).toNat : Nat) : Int) by omega]; exact this
                    have hdm := (auItems hw ho hpath _ _ _ hi9).1.resolve_left (by omega)
                    have hl5 := (hw.1.1.2.2 z1 hdm.1 hdm.2.1).1
                    have hl6 : 0 ≤ R 35 z1 ∧ R 35 z1 ≤ 5 := hl5
                    have hrg2 := (pPath.drop (R 36 z1).toNat hpath).rg ho
                    have hrp := hred.path hw ho hpath
                    have hnx9 : 0 ≤ a.2.2 (12 * tp (S.drop (R 36 z1).toNat) + (6 + R 35 z1)) := hrp.1.2.1
                    refine x_iload_n d_P_wrongAt_134 3 rfl rfl ?_
                    refine x_aload_n d_P_wrongAt_135 0 rfl rfl ?_
                    refine x_getc 30 5 36 36 fl_P_17 tk_23_5 (hM.at 0 rfl) rfl rfl d_P_wrongAt_136 ?_
                    refine x_iload d_P_wrongAt_139 rfl ?_
                    refine x_iald 36 (R 36 z1) (hM.at 3 rfl) rfl ⟨by decide, rfl, by decide⟩ rfl (by omega) (hkp 36 _ (by decide)) d_P_wrongAt_141 ?_
                    refine x_isub d_P_wrongAt_142 ?_
                    refine x_iconst d_P_wrongAt_143 ?_
                    refine x_iadd d_P_wrongAt_144 ?_
                    refine x_istore_n d_P_wrongAt_145 3 rfl [some (.ref ((σ 30).1)), some (vi n), some (vi whole), some (vi ((top - (R 36 z1)) + 1)), some (vi k), some (vi (R 49 k)), some (vi (tp S)), some (vi (a.2.2 (12 * tp S + R 49 k))), some (vi z1)] rfl rfl (lr rfl) ?_
                    refine x_aload_n d_P_wrongAt_146 0 rfl rfl ?_
                    refine x_getc 30 19 50 50 fl_P_48 tk_23_19 (hM.at 0 rfl) rfl rfl d_P_wrongAt_147 ?_
                    refine x_iload_n d_P_wrongAt_150 3 rfl rfl ?_
                    refine x_aload_n d_P_wrongAt_151 0 rfl rfl ?_
                    refine x_getc 30 14 45 45 fl_P_39 tk_23_14 (hM.at 0 rfl) rfl rfl d_P_wrongAt_152 ?_
                    refine x_bipush d_P_wrongAt_155 rfl ?_
                    refine x_aload_n d_P_wrongAt_157 0 rfl rfl ?_
                    refine x_getc 30 19 50 50 fl_P_48 tk_23_19 (hM.at 0 rfl) rfl rfl d_P_wrongAt_158 ?_
                    refine x_iload_n d_P_wrongAt_161 3 rfl rfl ?_
                    refine x_iconst d_P_wrongAt_162 ?_
                    refine x_isub d_P_wrongAt_163 ?_
                    refine x_iald 50 (tp (S.drop (R 36 z1).toNat)) (hM.at 13 rfl) rfl ⟨by decide, rfl, by decide⟩ rfl (by omega) hrd d_P_wrongAt_164 ?_
                    refine x_imul d_P_wrongAt_165 ?_
                    refine x_bipush d_P_wrongAt_166 rfl ?_
                    refine x_iadd d_P_wrongAt_168 ?_
                    refine x_aload_n d_P_wrongAt_169 0 rfl rfl ?_
                    refine x_getc 30 4 35 35 fl_P_13 tk_23_4 (hM.at 0 rfl) rfl rfl d_P_wrongAt_170 ?_
                    refine x_iload d_P_wrongAt_173 rfl ?_
                    refine x_iald 35 (R 35 z1) (hM.at 2 rfl) rfl ⟨by decide, rfl, by decide⟩ rfl (by omega) (hkp 35 _ (by decide)) d_P_wrongAt_175 ?_
                    refine x_iadd d_P_wrongAt_176 ?_
                    refine x_iald 45 (a.2.2 (12 * tp (S.drop (R 36 z1).toNat) + (6 + R 35 z1))) (hM.at 10 rfl) rfl ⟨by decide, rfl, by decide⟩ rfl (by omega) (by rw [show 12 * tp (S.drop (R 36 z1).toNat) + 6 + R 35 z1 = 12 * tp (S.drop (R 36 z1).toNat) + (6 + R 35 z1) by omega]; exact (hkp 45 _ (by decide)).trans (hco.2.2.2.2.2 _ (by omega) (by omega))) d_P_wrongAt_177 ?_
                    refine x_iast 50 (hM.at 13 rfl) rfl ⟨by decide, rfl, by decide⟩ rfl (by omega) d_P_wrongAt_178 (fun Q3 hQ3 => ?_)
                    refine x_goto (tgt := 12) d_P_wrongAt_179 rfl ?_
                    refine V.forget 5 [some (.ref ((σ 30).1)), some (vi n), some (vi whole), some (vi ((top - (R 36 z1)) + 1)), some (vi k), none, some (vi (tp S)), some (vi (a.2.2 (12 * tp S + R 49 k))), some (vi z1)] rfl ?_
                    refine V.forget 6 [some (.ref ((σ 30).1)), some (vi n), some (vi whole), some (vi ((top - (R 36 z1)) + 1)), some (vi k), none, none, some (vi (a.2.2 (12 * tp S + R 49 k))), some (vi z1)] rfl ?_
                    refine V.forget 7 [some (.ref ((σ 30).1)), some (vi n), some (vi whole), some (vi ((top - (R 36 z1)) + 1)), some (vi k), none, none, none, some (vi z1)] rfl ?_
                    refine V.forget 8 [some (.ref ((σ 30).1)), some (vi n), some (vi whole), some (vi ((top - (R 36 z1)) + 1)), some (vi k), none, none, none, none] rfl ?_
                    exact ih m1 (by omega) m1 _ (top - R 36 z1 + 1) k Q3 rfl (by show top - R 36 z1 + 1 = (((S.drop (R 36 z1).toNat).length + 1 : Nat) : Int); rw [List.length_drop]; omega) (by omega) (hred.path hw ho hpath) (mStk.push (hstk.dr hpl) (by have e9 := hQ3; rw [show top - R 36 z1 + 1 = ((S.length - (R 36 z1).toNat : Nat) : Int) + 1 by omega] at e9; rw [List.length_drop]; exact e9)) hnext (fun p q c => (xr_o hQ3 c).trans (hkp p q c))
                  · have hi9 := (hits 10 (by omega) (by omega)).mp (by have q := (hen2.resolve_left (fun q => by have := q.1; omega)).2; rw [show z1 = 10 by omega] at q; exact q)
                    have ht6 : la (R 49) n k = 6 := (it10 ho hpath hi9).resolve_right (fun q => by have := q.2.1; have := hw.1.1.2.1; omega)
                    have hacc : Acc a S (la (R 49) n k) := ⟨ht6, by rw [ht6, hw.2.1] at hi9; exact hi9⟩
                    have hz1 : z0 = -1 := by
                      rcases hstep with ⟨q, -⟩ | ⟨S1, q, -⟩ | ⟨-, q⟩ | ⟨q, -⟩
                      · exact absurd q hnshf
                      · exact absurd hacc (q.noAcc hw ho hc hpath)
                      · exact q
                      · exact absurd (Or.inr (Or.inl hacc)) q
                    have hkn : ¬ k < n := fun q => by unfold la at ht6; rw [if_pos q] at ht6; have := hwd k (by omega) q; omega
                    refine x_iconst d_P_wrongAt_132 ?_
                    exact x_iret d_P_wrongAt_133 rfl (lr rfl) (lr rfl) (⟨_, rfl, rfl, hkp, z0, hp0, by rw [if_neg (by omega), hz1]⟩)
                · refine x_iload d_P_wrongAt_122 rfl ?_
                  exact x_iret d_P_wrongAt_124 rfl (lr rfl) (lr rfl) (⟨_, rfl, rfl, hkp, z0, hp0, by rw [hzk.resolve_right (by omega)]; rcases hwh with q | q <;> first | rw [if_pos q, if_neg (by omega)] | rw [if_neg (by omega)]⟩)
              · exact absurd c78 c97
            · refine x_iconst d_P_wrongAt_81 ?_
              refine x_goto (tgt := 93) d_P_wrongAt_82 rfl ?_
              refine x_istore d_P_wrongAt_93 [some (.ref ((σ 30).1)), some (vi n), some (vi whole), some (vi top), some (vi k), some (vi (R 49 k)), some (vi (tp S)), some (vi (a.2.2 (12 * tp S + R 49 k))), some (vi (-1))] rfl rfl (lr rfl) ?_
              refine x_iload d_P_wrongAt_95 rfl ?_
              refine x_if_lt (tgt := 117) d_P_wrongAt_97 rfl (by omega) (fun c97 => ?_) (fun c97 => ?_)
              · exact absurd c97 c78
              · have hs9 : Shf a S (la (R 49) n k) := ⟨by rw [ela]; omega, by rw [ela]; omega⟩
                have hnext : PR (gM R) a (R 49) n m1 (px a S (la (R 49) n k) 1) (k + 1) z0 := by
                  rcases hstep with ⟨-, q⟩ | ⟨S1, q, -⟩ | ⟨q, -⟩ | ⟨q, -⟩
                  · exact q
                  · exact absurd hs9 (q.noShf ho hc hpath hla.1)
                  · have := q.1; omega
                  · exact absurd (Or.inl hs9) q
                have hlen2 : S.length + 1 ≤ 399 := hnext.len
                refine x_iinc d_P_wrongAt_100 rfl [some (.ref ((σ 30).1)), some (vi n), some (vi whole), some (vi (top + 1)), some (vi k), some (vi (R 49 k)), some (vi (tp S)), some (vi (a.2.2 (12 * tp S + R 49 k))), some (vi (-1))] rfl rfl (lr rfl) ?_
                refine x_aload_n d_P_wrongAt_103 0 rfl rfl ?_
                refine x_getc 30 19 50 50 fl_P_48 tk_23_19 (hM.at 0 rfl) rfl rfl d_P_wrongAt_104 ?_
                refine x_iload_n d_P_wrongAt_107 3 rfl rfl ?_
                refine x_iload d_P_wrongAt_108 rfl ?_
                refine x_iast 50 (hM.at 13 rfl) rfl ⟨by decide, rfl, by decide⟩ rfl (by omega) d_P_wrongAt_110 (fun Q4 hQ4 => ?_)
                refine x_iinc d_P_wrongAt_111 rfl [some (.ref ((σ 30).1)), some (vi n), some (vi whole), some (vi (top + 1)), some (vi (k + 1)), some (vi (R 49 k)), some (vi (tp S)), some (vi (a.2.2 (12 * tp S + R 49 k))), some (vi (-1))] rfl rfl (lr rfl) ?_
                refine x_goto (tgt := 179) d_P_wrongAt_114 rfl ?_
                refine x_goto (tgt := 12) d_P_wrongAt_179 rfl ?_
                refine V.forget 5 [some (.ref ((σ 30).1)), some (vi n), some (vi whole), some (vi (top + 1)), some (vi (k + 1)), none, some (vi (tp S)), some (vi (a.2.2 (12 * tp S + R 49 k))), some (vi (-1))] rfl ?_
                refine V.forget 6 [some (.ref ((σ 30).1)), some (vi n), some (vi whole), some (vi (top + 1)), some (vi (k + 1)), none, none, some (vi (a.2.2 (12 * tp S + R 49 k))), some (vi (-1))] rfl ?_
                refine V.forget 7 [some (.ref ((σ 30).1)), some (vi n), some (vi whole), some (vi (top + 1)), some (vi (k + 1)), none, none, none, some (vi (-1))] rfl ?_
                refine V.forget 8 [some (.ref ((σ 30).1)), some (vi n), some (vi whole), some (vi (top + 1)), some (vi (k + 1)), none, none, none, none] rfl ?_
                have hpush : pPath a (px a S (la (R 49) n k) 1) := ⟨⟨rfl, hs9.2, hla.1, by show la (R 49) n k < 12; omega⟩, hpath⟩
                exact ih m1 (by omega) m1 _ (top + 1) (k + 1) Q4 rfl (by show top + 1 = ((S.length + 1 : Nat) : Int); omega) (by omega) hpush (mStk.push hstk (by rw [ela, ← htop]; exact hQ4)) hnext (fun p q c => (xr_o hQ4 c).trans (hkp p q c))
      · refine x_iload_n d_P_wrongAt_18 2 rfl rfl ?_
        refine x_if_eq (tgt := 182) d_P_wrongAt_19 rfl (by omega) (fun c19 => ?_) (fun c19 => ?_)
        · refine x_iload_n d_P_wrongAt_182 1 rfl rfl ?_
          exact x_iret d_P_wrongAt_183 rfl (lr rfl) (lr rfl) (⟨_, rfl, rfl, hkp, z0, hp0, by rw [if_pos (by omega)]; have q := PR.rng hwd (by omega) (by omega) hPR; by_cases q2 : z0 < 0 <;> first | rw [if_pos q2] | (rw [if_neg q2]; omega)⟩)
        · refine x_iload d_P_wrongAt_22 rfl ?_
          refine x_iload_n d_P_wrongAt_24 1 rfl rfl ?_
          refine x_icmp_ge (tgt := 38) d_P_wrongAt_25 rfl (by omega) (by omega) (fun c25 => ?_) (fun c25 => ?_)
          · have ela : la (R 49) n k = 6 := if_neg (by omega)
            refine x_bipush d_P_wrongAt_38 rfl ?_
            refine x_istore d_P_wrongAt_40 [some (.ref ((σ 30).1)), some (vi n), some (vi whole), some (vi top), some (vi k), some (vi 6), none, none, none] rfl rfl (lr rfl) ?_
            refine x_aload_n d_P_wrongAt_42 0 rfl rfl ?_
            refine x_getc 30 19 50 50 fl_P_48 tk_23_19 (hM.at 0 rfl) rfl rfl d_P_wrongAt_43 ?_
            refine x_iload_n d_P_wrongAt_46 3 rfl rfl ?_
            refine x_iald 50 (tp S) (hM.at 13 rfl) rfl ⟨by decide, rfl, by decide⟩ rfl (by omega) (by rw [htop]; exact hstk.top) d_P_wrongAt_47 ?_
            refine x_istore d_P_wrongAt_48 [some (.ref ((σ 30).1)), some (vi n), some (vi whole), some (vi top), some (vi k), some (vi 6), some (vi (tp S)), none, none] rfl rfl (lr rfl) ?_
            refine x_iload d_P_wrongAt_50 rfl ?_
            refine x_bipush d_P_wrongAt_52 rfl ?_
            refine x_icmp_ge (tgt := 73) d_P_wrongAt_54 rfl (by omega) (by omega) (fun c54 => ?_) (fun c54 => ?_)
            · refine x_iconst d_P_wrongAt_73 ?_
              refine x_istore d_P_wrongAt_74 [some (.ref ((σ 30).1)), some (vi n), some (vi whole), some (vi top), some (vi k), some (vi 6), some (vi (tp S)), some (vi (-1)), none] rfl rfl (lr rfl) ?_
              refine x_iload d_P_wrongAt_76 rfl ?_
              refine x_if_lt (tgt := 85) d_P_wrongAt_78 rfl (by omega) (fun c78 => ?_) (fun c78 => ?_)
              · refine x_aload_n d_P_wrongAt_85 0 rfl rfl ?_
                refine x_iload d_P_wrongAt_86 rfl ?_
                refine x_iload d_P_wrongAt_88 rfl ?_
                refine x_cvm 30 (As := [vi (tp S), vi 6]) (c_P_ended (R := R1) hM (fun r a b => by rw [hkp 36 r (by decide)]; exact hco.1.2.2.1 r a b) (fun i a b => by rw [hkp 44 i (by decide)]; exact h7 i a b) (tp S) 6 (by have := ho.2.2.1; omega) (by omega)) cs_P_132 hthis rfl rfl (lr rfl) d_P_wrongAt_90 (lr rfl) ⟨lr rfl, lr rfl⟩ (fun z5 Q6 hQ6 => ?_)
                obtain ⟨eR, hen⟩ := hQ6
                rw [eR]
                have hen2 : mEn R (tp S) 6 z5 := by
                  unfold mEn at hen ⊢
                  have e36 : R1 36 = R 36 := funext fun b => hkp 36 b (by decide)
                  have e44 : R1 44 = R 44 := funext fun b => hkp 44 b (by decide)
                  rw [e36, e44] at hen
                  exact hen
                have hz9 : -1 ≤ z5 ∧ z5 ≤ 10 := by rcases hen2 with q | q <;> omega
                have hnshf : ¬ Shf a S (la (R 49) n k) := by
                  rintro ⟨q1, q2⟩
                  rw [ela] at q1 q2
                  omega
                have hits : ∀ r, 0 ≤ r → r ≤ 10 → (hb (R 44 (55 * tp S + 5 * r + R 36 r)) 6 ↔ a.2.1 (tp S) r ((gM R).2.2.1 r) (la (R 49) n k)) := fun r q1 q2 => by rw [ela]; exact mEn.it hco hrg (by omega) ⟨q1, q2⟩
                refine x_istore d_P_wrongAt_93 [some (.ref ((σ 30).1)), some (vi n), some (vi whole), some (vi top), some (vi k), some (vi 6), some (vi (tp S)), some (vi (-1)), some (vi z5)] rfl rfl (lr rfl) ?_
                refine x_iload d_P_wrongAt_95 rfl ?_
                refine x_if_lt (tgt := 117) d_P_wrongAt_97 rfl (by omega) (fun c97 => ?_) (fun c97 => ?_)
                · have hzk : z0 = k ∨ 0 ≤ z5 := by
                    by_cases q9 : 0 ≤ z5
                    · exact Or.inr q9
                    · refine Or.inl ?_
                      have hnone := (hen2.resolve_right (fun q => by have := q.1; omega)).2
                      rcases hstep with ⟨q, -⟩ | ⟨S1, ⟨r9, -, q, -⟩, -⟩ | ⟨q, -⟩ | ⟨-, q⟩
                      · exact absurd q hnshf
                      · have hr9 := ((auItems hw ho hpath _ _ _ q).1.rng hw)
                        exact absurd ((hits r9 hr9.1 hr9.2).mpr q) (hnone r9 hr9.1 hr9.2)
                      · exact absurd ((hits 10 (by omega) (by omega)).mpr (by rw [q.1, hw.2.1]; exact q.2)) (hnone 10 (by omega) (by omega))
                      · exact q
                  refine x_iload d_P_wrongAt_117 rfl ?_
                  refine x_if_ge (tgt := 125) d_P_wrongAt_119 rfl (by omega) (fun c119 => ?_) (fun c119 => ?_)
                  · refine x_iload d_P_wrongAt_125 rfl ?_
                    refine x_bipush d_P_wrongAt_127 rfl ?_
                    refine x_icmp_ne (tgt := 134) d_P_wrongAt_129 rfl (by omega) (by omega) (fun c129 => ?_) (fun c129 => ?_)
                    · have hi9 := (hits z5 (by omega) (by omega)).mp ((hen2.resolve_left (fun q => by have := q.1; omega)).2)
                      have hred : Red (gM R) a S (la (R 49) n k) (rd (gM R) a S z5) := ⟨z5, by omega, hi9, rfl⟩
                      have hnext : PR (gM R) a (R 49) n m1 (rd (gM R) a S z5) k z0 := by
                        rcases hstep with ⟨q, -⟩ | ⟨S1, q, q2⟩ | ⟨q, -⟩ | ⟨q, -⟩
                        · exact absurd q hnshf
                        · have := Red.fun ho hc hpath hred q; rw [this]; exact q2
                        · exact absurd q (hred.noAcc hw ho hc hpath)
                        · exact absurd (Or.inr (Or.inr ⟨_, hred⟩)) q
                      have hlen2 : (S.drop (R 36 z5).toNat).length + 1 ≤ 399 := hnext.len
                      rw [List.length_drop] at hlen2
                      have hl4 := hco.1.2.2.1 z5 (by omega) (by omega)
                      have hpl : (R 36 z5).toNat ≤ S.length := (hpath.popn ho (R 36 z5).toNat hi9 (by show R 36 z5 = _; omega)).1
                      have hrd : R1 50 (top - R 36 z5 + 1 - 1) = tp (S.drop (R 36 z5).toNat) := by
                        have := hstk (R 36 z5).toNat hpl
                        rw [show top - R 36 z5 + 1 - 1 = (S.length : Int) - (((R 36 z5).toNat : Nat) : Int) by omega]; exact this
                      have hdm := (auItems hw ho hpath _ _ _ hi9).1.resolve_left (by omega)
                      have hl5 := (hw.1.1.2.2 z5 hdm.1 hdm.2.1).1
                      have hl6 : 0 ≤ R 35 z5 ∧ R 35 z5 ≤ 5 := hl5
                      have hrg2 := (pPath.drop (R 36 z5).toNat hpath).rg ho
                      have hrp := hred.path hw ho hpath
                      have hnx9 : 0 ≤ a.2.2 (12 * tp (S.drop (R 36 z5).toNat) + (6 + R 35 z5)) := hrp.1.2.1
                      refine x_iload_n d_P_wrongAt_134 3 rfl rfl ?_
                      refine x_aload_n d_P_wrongAt_135 0 rfl rfl ?_
                      refine x_getc 30 5 36 36 fl_P_17 tk_23_5 (hM.at 0 rfl) rfl rfl d_P_wrongAt_136 ?_
                      refine x_iload d_P_wrongAt_139 rfl ?_
                      refine x_iald 36 (R 36 z5) (hM.at 3 rfl) rfl ⟨by decide, rfl, by decide⟩ rfl (by omega) (hkp 36 _ (by decide)) d_P_wrongAt_141 ?_
                      refine x_isub d_P_wrongAt_142 ?_
                      refine x_iconst d_P_wrongAt_143 ?_
                      refine x_iadd d_P_wrongAt_144 ?_
                      refine x_istore_n d_P_wrongAt_145 3 rfl [some (.ref ((σ 30).1)), some (vi n), some (vi whole), some (vi ((top - (R 36 z5)) + 1)), some (vi k), some (vi 6), some (vi (tp S)), some (vi (-1)), some (vi z5)] rfl rfl (lr rfl) ?_
                      refine x_aload_n d_P_wrongAt_146 0 rfl rfl ?_
                      refine x_getc 30 19 50 50 fl_P_48 tk_23_19 (hM.at 0 rfl) rfl rfl d_P_wrongAt_147 ?_
                      refine x_iload_n d_P_wrongAt_150 3 rfl rfl ?_
                      refine x_aload_n d_P_wrongAt_151 0 rfl rfl ?_
                      refine x_getc 30 14 45 45 fl_P_39 tk_23_14 (hM.at 0 rfl) rfl rfl d_P_wrongAt_152 ?_
                      refine x_bipush d_P_wrongAt_155 rfl ?_
                      refine x_aload_n d_P_wrongAt_157 0 rfl rfl ?_
                      refine x_getc 30 19 50 50 fl_P_48 tk_23_19 (hM.at 0 rfl) rfl rfl d_P_wrongAt_158 ?_
                      refine x_iload_n d_P_wrongAt_161 3 rfl rfl ?_
                      refine x_iconst d_P_wrongAt_162 ?_
                      refine x_isub d_P_wrongAt_163 ?_
                      refine x_iald 50 (tp (S.drop (R 36 z5).toNat)) (hM.at 13 rfl) rfl ⟨by decide, rfl, by decide⟩ rfl (by omega) hrd d_P_wrongAt_164 ?_
                      refine x_imul d_P_wrongAt_165 ?_
                      refine x_bipush d_P_wrongAt_166 rfl ?_
                      refine x_iadd d_P_wrongAt_168 ?_
                      refine x_aload_n d_P_wrongAt_169 0 rfl rfl ?_
                      refine x_getc 30 4 35 35 fl_P_13 tk_23_4 (hM.at 0 rfl) rfl rfl d_P_wrongAt_170 ?_
                      refine x_iload d_P_wrongAt_173 rfl ?_
                      refine x_iald 35 (R 35 z5) (hM.at 2 rfl) rfl ⟨by decide, rfl, by decide⟩ rfl (by omega) (hkp 35 _ (by decide)) d_P_wrongAt_175 ?_
                      refine x_iadd d_P_wrongAt_176 ?_
                      refine x_iald 45 (a.2.2 (12 * tp (S.drop (R 36 z5).toNat) + (6 + R 35 z5))) (hM.at 10 rfl) rfl ⟨by decide, rfl, by decide⟩ rfl (by omega) (by rw [show 12 * tp (S.drop (R 36 z5).toNat) + 6 + R 35 z5 = 12 * tp (S.drop (R 36 z5).toNat) + (6 + R 35 z5) by omega]; exact (hkp 45 _ (by decide)).trans (hco.2.2.2.2.2 _ (by omega) (by omega))) d_P_wrongAt_177 ?_
                      refine x_iast 50 (hM.at 13 rfl) rfl ⟨by decide, rfl, by decide⟩ rfl (by omega) d_P_wrongAt_178 (fun Q7 hQ7 => ?_)
                      refine x_goto (tgt := 12) d_P_wrongAt_179 rfl ?_
                      refine V.forget 5 [some (.ref ((σ 30).1)), some (vi n), some (vi whole), some (vi ((top - (R 36 z5)) + 1)), some (vi k), none, some (vi (tp S)), some (vi (-1)), some (vi z5)] rfl ?_
                      refine V.forget 6 [some (.ref ((σ 30).1)), some (vi n), some (vi whole), some (vi ((top - (R 36 z5)) + 1)), some (vi k), none, none, some (vi (-1)), some (vi z5)] rfl ?_
                      refine V.forget 7 [some (.ref ((σ 30).1)), some (vi n), some (vi whole), some (vi ((top - (R 36 z5)) + 1)), some (vi k), none, none, none, some (vi z5)] rfl ?_
                      refine V.forget 8 [some (.ref ((σ 30).1)), some (vi n), some (vi whole), some (vi ((top - (R 36 z5)) + 1)), some (vi k), none, none, none, none] rfl ?_
                      exact ih m1 (by omega) m1 _ (top - R 36 z5 + 1) k Q7 rfl (by show top - R 36 z5 + 1 = (((S.drop (R 36 z5).toNat).length + 1 : Nat) : Int); rw [List.length_drop]; omega) (by omega) (hred.path hw ho hpath) (mStk.push (hstk.dr hpl) (by have e9 := hQ7; rw [show top - R 36 z5 + 1 = ((S.length - (R 36 z5).toNat : Nat) : Int) + 1 by omega] at e9; rw [List.length_drop]; exact e9)) hnext (fun p q c => (xr_o hQ7 c).trans (hkp p q c))
                    · have hi9 := (hits 10 (by omega) (by omega)).mp (by have q := (hen2.resolve_left (fun q => by have := q.1; omega)).2; rw [show z5 = 10 by omega] at q; exact q)
                      have ht6 : la (R 49) n k = 6 := (it10 ho hpath hi9).resolve_right (fun q => by have := q.2.1; have := hw.1.1.2.1; omega)
                      have hacc : Acc a S (la (R 49) n k) := ⟨ht6, by rw [ht6, hw.2.1] at hi9; exact hi9⟩
                      have hz1 : z0 = -1 := by
                        rcases hstep with ⟨q, -⟩ | ⟨S1, q, -⟩ | ⟨-, q⟩ | ⟨q, -⟩
                        · exact absurd q hnshf
                        · exact absurd hacc (q.noAcc hw ho hc hpath)
                        · exact q
                        · exact absurd (Or.inr (Or.inl hacc)) q
                      have hkn : ¬ k < n := fun q => by unfold la at ht6; rw [if_pos q] at ht6; have := hwd k (by omega) q; omega
                      refine x_iconst d_P_wrongAt_132 ?_
                      exact x_iret d_P_wrongAt_133 rfl (lr rfl) (lr rfl) (⟨_, rfl, rfl, hkp, z0, hp0, by rw [if_neg (by omega), hz1]⟩)
                  · refine x_iload d_P_wrongAt_122 rfl ?_
                    exact x_iret d_P_wrongAt_124 rfl (lr rfl) (lr rfl) (⟨_, rfl, rfl, hkp, z0, hp0, by rw [hzk.resolve_right (by omega)]; rcases hwh with q | q <;> first | rw [if_pos q, if_neg (by omega)] | rw [if_neg (by omega)]⟩)
                · exact absurd c78 c97
              · exact absurd (by omega) c78
            · exact absurd (Int.le_refl _) c54
          · omega
  refine x_iconst d_P_wrongAt_0 ?_
  refine x_istore_n d_P_wrongAt_1 3 rfl [some (.ref ((σ 30).1)), some (vi n), some (vi whole), some (vi 0), none, none, none, none, none] rfl rfl (lr rfl) ?_
  refine x_iconst d_P_wrongAt_2 ?_
  refine x_istore d_P_wrongAt_3 [some (.ref ((σ 30).1)), some (vi n), some (vi whole), some (vi 0), some (vi 0), none, none, none, none] rfl rfl (lr rfl) ?_
  refine x_aload_n d_P_wrongAt_5 0 rfl rfl ?_
  refine x_getc 30 19 50 50 fl_P_48 tk_23_19 (hM.at 0 rfl) rfl rfl d_P_wrongAt_6 ?_
  refine x_iconst d_P_wrongAt_9 ?_
  refine x_iconst d_P_wrongAt_10 ?_
  refine x_iast 50 (hM.at 13 rfl) rfl ⟨by decide, rfl, by decide⟩ rfl (by omega) d_P_wrongAt_11 (fun Q1 hQ1 => ?_)
  exact hl _ M0 [] 0 0 Q1 rfl rfl (by omega) trivial (mStk.nil hQ1) hz0 (fun p q c => xr_o hQ1 c)
theorem gM49 {R R1 : xR} (h : ∀ p q, p ≠ 49 → R1 p q = R p q) : gM R1 = gM R := by
  unfold gM
  have e1 : R1 30 3 = R 30 3 := h 30 3 (by decide)
  have e2 : R1 35 = R 35 := funext (fun b => h 35 b (by decide))
  have e3 : R1 36 = R 36 := funext (fun b => h 36 b (by decide))
  have e4 : R1 37 = R 37 := funext (fun b => h 37 b (by decide))
  rw [e1, e2, e3, e4]
theorem mCo.keep {R R1 : xR} {a : auT} (h : mCo R a) (e3 : R1 30 3 = R 30 3) (e12 : R1 30 12 = R 30 12) (e : ∀ p q, (p = 35 ∨ p = 36 ∨ p = 37 ∨ p = 44 ∨ p = 45) → R1 p q = R p q) : mCo R1 a := by
  have eg : gM R1 = gM R := by
    unfold gM
    have e4 : R1 35 = R 35 := funext (fun b => e 35 b (by omega))
    have e5 : R1 36 = R 36 := funext (fun b => e 36 b (by omega))
    have e6 : R1 37 = R 37 := funext (fun b => e 37 b (by omega))
    rw [e3, e4, e5, e6]
  obtain ⟨h1, h2, h3, h4, h5, h6⟩ := h
  refine ⟨?_, by rw [eg]; exact h2, by rw [eg]; exact h3, by rw [e12]; exact h4, fun k p q => ?_, fun i p q => by rw [e 45 i (by omega)]; exact h6 i p q⟩
  · obtain ⟨g1, g2, g3, g4, g5, g6, g7, g8⟩ := h1
    unfold mGr
    rw [e3, e 35 10 (by omega), e 36 10 (by omega), e 37 40 (by omega), e 35 0 (by omega)]
    exact ⟨g1, fun r a b => by rw [e 35 r (by omega)]; exact g2 r a b, fun r a b => by rw [e 36 r (by omega)]; exact g3 r a b, fun r k a b c d => by rw [e 36 r (by omega)] at d; rw [e 37 _ (by omega)]; exact g4 r k a b c d, g5, g6, g7, fun r a b => by rw [e 36 r (by omega)]; exact g8 r a b⟩
  · rw [← h5 k p q]
    unfold mIt
    have e44 : R1 44 = R 44 := funext (fun b => e 44 b (by omega))
    rw [e44]
theorem mCo.kept {R R1 : xR} {a : auT} (h : mCo R a) (e : ∀ p q, p ≠ 49 → R1 p q = R p q) : mCo R1 a := h.keep (e _ _ (by decide)) (e _ _ (by decide)) (fun p q hp => e p q (by omega))
set_option maxHeartbeats 4000000 in
set_option maxRecDepth 100000 in
theorem c_P_parsed {σ : xS} {R : xR} (hM : xsh σ mshape) {a : auT} (hco : mCo R a) (h7 : ∀ i, 0 ≤ i → i < 2310 → s7 (R 44 i)) (hn : 0 ≤ R 30 15 ∧ R 30 15 ≤ 16) (hwd : ∀ k, 0 ≤ k → k < R 30 15 → 0 ≤ R 48 k ∧ R 48 k < 6) : Ct m_P_parsed 3 0 0 [.ref (σ 30).1] σ R (Zm σ (fun z R1 => (∀ p q, p ≠ 49 → p ≠ 50 → R1 p q = R p q) ∧ pR (gM R) a (R 48) (R 30 15) z)) := by
  refine Ct.of [some (.ref ((σ 30).1)), none] rfl (by decide +kernel) (lr rfl) (fun X => ?_)
  have hthis := thisM hM
  have hl : ∀ (m : Nat) (k : Int) (R1 : xR), (16 - k).toNat = m → (0 ≤ k ∧ k ≤ R 30 15) → (∀ p q, p ≠ 49 → R1 p q = R p q) → (∀ i, 0 ≤ i → i < k → R1 49 i = R 48 i) → V X m_P_parsed (3, 0, 0, Zm σ (fun z R1 => (∀ p q, p ≠ 49 → p ≠ 50 → R1 p q = R p q) ∧ pR (gM R) a (R 48) (R 30 15) z)) σ R1 0 0 2 [some (.ref ((σ 30).1)), some (vi k)] [] := by
    intro m
    induction m using Nat.strongRecOn with
    | _ m ih =>
      intro k R1 hm hk1 hk9 hcp
      refine x_iload_n d_P_parsed_2 1 rfl rfl ?_
      refine x_aload_n d_P_parsed_3 0 rfl rfl ?_
      refine x_geti 30 15 15 (R 30 15) fl_P_135 tk_23_15 (hM.at 0 rfl) rfl rfl (hk9 30 15 (by decide)) d_P_parsed_4 ?_
      refine x_icmp_ge (tgt := 28) d_P_parsed_7 rfl (by omega) (by omega) (fun c7 => ?_) (fun c7 => ?_)
      · refine x_aload_n d_P_parsed_28 0 rfl rfl ?_
        refine x_aload_n d_P_parsed_29 0 rfl rfl ?_
        refine x_geti 30 15 15 (R 30 15) fl_P_135 tk_23_15 (hM.at 0 rfl) rfl rfl (hk9 30 15 (by decide)) d_P_parsed_30 ?_
        refine x_iconst d_P_parsed_33 ?_
        have hco1 : mCo R1 a := mCo.kept hco hk9
        have eg1 : gM R1 = gM R := gM49 hk9
        refine x_cvm 30 (As := [vi (R 30 15), vi 1]) (c_P_wrongAt (R := R1) hM hco1 (fun i a b => by rw [hk9 44 i (by decide)]; exact h7 i a b) (R 30 15) 1 (by omega) (Or.inr rfl) (fun k q1 q2 => by rw [hcp k q1 (by omega)]; exact hwd k q1 q2)) cs_P_138 hthis rfl rfl (lr rfl) d_P_parsed_34 (lr rfl) ⟨lr rfl, lr rfl⟩ (fun z1 Q2 hQ2 => ?_)
        obtain ⟨hq1, z0, hq2, hq3⟩ := hQ2
        rw [if_neg (by decide)] at hq3
        subst hq3
        rw [eg1] at hq2
        exact x_iret d_P_parsed_37 rfl (lr rfl) (lr rfl) (⟨_, rfl, rfl, fun p q c d => (hq1 p q d).trans (hk9 p q c), pR.congr (fun i q1 q2 => hcp i q1 (by omega)) hq2⟩)
      · refine x_aload_n d_P_parsed_10 0 rfl rfl ?_
        refine x_getc 30 18 49 49 fl_P_45 tk_23_18 (hM.at 0 rfl) rfl rfl d_P_parsed_11 ?_
        refine x_iload_n d_P_parsed_14 1 rfl rfl ?_
        refine x_aload_n d_P_parsed_15 0 rfl rfl ?_
        refine x_getc 30 17 48 48 fl_P_42 tk_23_17 (hM.at 0 rfl) rfl rfl d_P_parsed_16 ?_
        refine x_iload_n d_P_parsed_19 1 rfl rfl ?_
        refine x_iald 48 (R 48 k) (hM.at 11 rfl) rfl ⟨by decide, rfl, by decide⟩ rfl (by omega) (hk9 48 k (by decide)) d_P_parsed_20 ?_
        refine x_iast 49 (hM.at 12 rfl) rfl ⟨by decide, rfl, by decide⟩ rfl (by omega) d_P_parsed_21 (fun Q3 hQ3 => ?_)
        refine x_iinc d_P_parsed_22 rfl [some (.ref ((σ 30).1)), some (vi (k + 1))] rfl rfl (lr rfl) ?_
        refine x_goto (tgt := 2) d_P_parsed_25 rfl ?_
        exact ih _ (by omega) (k + 1) Q3 rfl (by omega) (fun p q c => (xr_o hQ3 c).trans (hk9 p q c)) (fun i q1 q2 => by
          by_cases e : i = k
          · rw [e, xr_s hQ3]
          · rw [xr_d hQ3 e]; exact hcp i q1 (by omega))
  refine x_iconst d_P_parsed_0 ?_
  refine x_istore_n d_P_parsed_1 1 rfl [some (.ref ((σ 30).1)), some (vi 0)] rfl rfl (lr rfl) ?_
  exact hl _ 0 R rfl (by omega) (fun _ _ _ => rfl) (fun i a b => by omega)
