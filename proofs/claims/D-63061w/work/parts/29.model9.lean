/-! the model: search (walk printed by gen/model9.py) -/
set_option maxHeartbeats 4000000 in
set_option maxRecDepth 100000 in
theorem c_P_search {σ : xS} {R : xR} (hM : xsh σ mshape) {a : auT} (hco : mCo R a) (h7 : ∀ i, 0 ≤ i → i < 2310 → s7 (R 44 i)) (he : enOk (mEnv R)) (cost guard : Int) (hcs : 1 ≤ cost ∧ cost ≤ 3) (hgd : 0 ≤ guard ∧ guard ≤ 3) (h0 : R 30 22 = 0) : Ct m_P_search 4 0 0 [.ref (σ 30).1, vi cost, vi guard] σ R (Zv σ (fun R1 => mFr R R1 ∧ mFd R1 (srA (gM R) a (mEnv R) cost guard))) := by
  refine Ct.of [some (.ref ((σ 30).1)), some (vi cost), some (vi guard), none, none, none] rfl (by decide +kernel) (lr rfl) (fun X => ?_)
  have hthis := thisM hM
  have he1 : 0 ≤ R 30 15 ∧ R 30 15 ≤ 16 := he.1
  have hw := hco.w
  have ho := hco.o
  have hc := hco.c
  have hen1 : (mEnv R).1 = R 30 15 := rfl
  have hl : ∀ (m : Nat) (st : List Int) (n : Int) (R1 : xR) (dn : List (List Int × Int)), rowM st = m → (n = (st.length : Int)) → (mSr R a cost guard R1 st dn) → V X m_P_search (4, 0, 0, Zv σ (fun R1 => mFr R R1 ∧ mFd R1 (srA (gM R) a (mEnv R) cost guard))) σ R1 0 0 9 [some (.ref ((σ 30).1)), some (vi cost), some (vi guard), some (vi n), none, none] [] := by
    intro m
    induction m using Nat.strongRecOn with
    | _ m ih =>
      intro st n R1 dn hm hn hsr
      have hl7 := rowOk_len hsr.2.2.2.2
      refine x_iload_n d_P_search_9 3 rfl rfl ?_
      refine x_if_le (tgt := 155) d_P_search_10 rfl (by omega) (fun c10 => ?_) (fun c10 => ?_)
      · exact x_vret d_P_search_155 rfl (lr rfl) (lr rfl) (⟨rfl, rfl, (by cases st with | nil => exact hsr.fin | cons c s => rw [List.length_cons] at hn; omega)⟩)
      · obtain ⟨c, s, rfl⟩ : ∃ c s, st = c :: s := by
          cases st with
          | nil => rw [show (([] : List Int).length : Int) = 0 from rfl] at hn; omega
          | cons c s => exact ⟨c, s, rfl⟩
        have hok := hsr.2.2.2.2
        have hok1 := hok.1
        have hok4 := hok.2.2.2
        have hn1 : n - 1 = (s.length : Int) := by rw [List.length_cons] at hn; omega
        have hn2 : n = (((c + 1) :: s).length : Int) := by rw [List.length_cons]; omega
        have hv0 : R1 57 (n - 1) = c := by rw [hn1]; exact hsr.2.1.1
        refine x_aload_n d_P_search_13 0 rfl rfl ?_
        refine x_getc 30 26 57 57 fl_P_63 tk_23_26 (hM.at 0 rfl) rfl rfl d_P_search_14 ?_
        refine x_iload_n d_P_search_17 3 rfl rfl ?_
        refine x_iconst d_P_search_18 ?_
        refine x_isub d_P_search_19 ?_
        refine x_dup2 d_P_search_20 rfl rfl ?_
        refine x_iald 57 c (hM.at 18 rfl) rfl ⟨by decide, rfl, by decide⟩ rfl (by omega) hv0 d_P_search_21 ?_
        refine x_iconst d_P_search_22 ?_
        refine x_iadd d_P_search_23 ?_
        refine x_iast 57 (hM.at 18 rfl) rfl ⟨by decide, rfl, by decide⟩ rfl (by omega) d_P_search_24 (fun Q1 hQ1 => ?_)
        refine x_aload_n d_P_search_25 0 rfl rfl ?_
        refine x_getc 30 26 57 57 fl_P_63 tk_23_26 (hM.at 0 rfl) rfl rfl d_P_search_26 ?_
        refine x_iload_n d_P_search_29 3 rfl rfl ?_
        refine x_iconst d_P_search_30 ?_
        refine x_isub d_P_search_31 ?_
        refine x_iald 57 (c + 1) (hM.at 18 rfl) rfl ⟨by decide, rfl, by decide⟩ rfl (by omega) (xr_s hQ1) d_P_search_32 ?_
        refine x_bipush d_P_search_33 rfl ?_
        refine x_icmp_le (tgt := 44) d_P_search_35 rfl (by omega) (by omega) (fun c35 => ?_) (fun c35 => ?_)
        · refine x_aload_n d_P_search_44 0 rfl rfl ?_
          refine x_iload_n d_P_search_45 3 rfl rfl ?_
          have hf1 : mFr R Q1 := fun p q a b c d f g => (xr_o hQ1 f).trans (hsr.1 p q a b c d f g)
          have eE1 := hf1.env
          have hr1 : mRow Q1 ((c + 1) :: s) := ⟨hn1 ▸ xr_s hQ1, hsr.2.1.2.kept (fun i a b => xr_d hQ1 (by omega))⟩
          have hd1 : mFd Q1 dn := hsr.2.2.1.kept (xr_o hQ1 (by decide)) (fun p q hp => xr_o hQ1 (by omega))
          have hst1 : stOk ((c + 1) :: s) := stOk_cons (by omega) hok.2.1
          refine x_cvm 30 (As := [vi n]) (c_P_follows (R := Q1) hM (eE1.symm ▸ he) ((c + 1) :: s) hr1 hst1 n hn2 (by rw [List.length_cons]; omega)) cs_P_155 hthis rfl rfl (lr rfl) d_P_search_46 (lr rfl) ⟨lr rfl, lr rfl⟩ (fun z2 Q3 hQ3 => ?_)
          have hf3 : mFr R Q3 := mFw.fr hQ3 hf1
          have hq1 := hQ3.1
          have hzz := mFw.rng hQ3 eE1 he hst1
          rw [← hn2] at hzz
          have hr3 : mRow Q3 ((c + 1) :: s) := hr1.kept (fun i a b => hq1 57 i (by decide) (by omega))
          have hd3 : mFd Q3 dn := hd1.kept (hq1 30 22 (by decide) (by decide)) (fun p q hp => hq1 p q (by omega) (by omega))
          have hv57 : Q3 57 (n - 1) = c + 1 := by rw [hn1]; exact hr3.1
          refine x_istore d_P_search_49 [some (.ref ((σ 30).1)), some (vi cost), some (vi guard), some (vi n), some (vi z2), none] rfl rfl (lr rfl) ?_
          refine x_iload d_P_search_51 rfl ?_
          refine x_if_lt (tgt := 95) d_P_search_53 rfl (by omega) (fun c53 => ?_) (fun c53 => ?_)
          · have hno : ¬ ndK (gM R) a (mEnv R) cost s (c + 1) := fun q => by
              exact mFw.nay hQ3 eE1 he hst1 (by omega) ⟨⟨hok.2.2.1, q.1⟩, q.2.1⟩
            refine x_iconst d_P_search_95 ?_
            refine x_istore d_P_search_96 [some (.ref ((σ 30).1)), some (vi cost), some (vi guard), some (vi n), some (vi z2), some (vi 0)] rfl rfl (lr rfl) ?_
            refine x_iload d_P_search_98 rfl ?_
            refine x_if_eq (tgt := 131) d_P_search_100 rfl (by omega) (fun c100 => ?_) (fun c100 => ?_)
            · refine x_iload d_P_search_131 rfl ?_
              refine x_if_eq (tgt := 152) d_P_search_133 rfl (by omega) (fun c133 => ?_) (fun c133 => ?_)
              · refine x_goto (tgt := 9) d_P_search_152 rfl ?_
                refine V.forget 4 [some (.ref ((σ 30).1)), some (vi cost), some (vi guard), some (vi n), none, some (vi 0)] rfl ?_
                refine V.forget 5 [some (.ref ((σ 30).1)), some (vi cost), some (vi guard), some (vi n), none, none] rfl ?_
                exact ih _ (by rw [← hm]; have := (rowM_next (c := c) (st := s) (by omega) hok.2.2.2).1; have : 0 < 10 ^ (7 - s.length) := Nat.pow_pos (by decide); omega) ((c + 1) :: s) n Q3 dn rfl hn2 (hsr.no (by omega) hf3 hr3 hd3 hno)
              · omega
            · omega
          · refine x_iload d_P_search_56 rfl ?_
            refine x_iload_n d_P_search_58 1 rfl rfl ?_
            refine x_icmp_gt (tgt := 95) d_P_search_59 rfl (by omega) (by omega) (fun c59 => ?_) (fun c59 => ?_)
            · have hno : ¬ ndK (gM R) a (mEnv R) cost s (c + 1) := fun q => by
                have q3 := q.2.2.1
                have := (mFw.yes hQ3 eE1 (by omega)).2.2.1
                omega
              refine x_iconst d_P_search_95 ?_
              refine x_istore d_P_search_96 [some (.ref ((σ 30).1)), some (vi cost), some (vi guard), some (vi n), some (vi z2), some (vi 0)] rfl rfl (lr rfl) ?_
              refine x_iload d_P_search_98 rfl ?_
              refine x_if_eq (tgt := 131) d_P_search_100 rfl (by omega) (fun c100 => ?_) (fun c100 => ?_)
              · refine x_iload d_P_search_131 rfl ?_
                refine x_if_eq (tgt := 152) d_P_search_133 rfl (by omega) (fun c133 => ?_) (fun c133 => ?_)
                · refine x_goto (tgt := 9) d_P_search_152 rfl ?_
                  refine V.forget 4 [some (.ref ((σ 30).1)), some (vi cost), some (vi guard), some (vi n), none, some (vi 0)] rfl ?_
                  refine V.forget 5 [some (.ref ((σ 30).1)), some (vi cost), some (vi guard), some (vi n), none, none] rfl ?_
                  exact ih _ (by rw [← hm]; have := (rowM_next (c := c) (st := s) (by omega) hok.2.2.2).1; have : 0 < 10 ^ (7 - s.length) := Nat.pow_pos (by decide); omega) ((c + 1) :: s) n Q3 dn rfl hn2 (hsr.no (by omega) hf3 hr3 hd3 hno)
                · omega
              · omega
            · obtain ⟨hv1, hv2, hv3, hv4, hv5, hv6⟩ := mFw.yes hQ3 eE1 (by omega)
              have hrng := ndV.rng he hst1 hv1
              have hlen : (((c + 1) :: s).length : Int) = s.length + 1 := by rw [List.length_cons]; omega
              rw [hlen] at hrng
              refine x_aload_n d_P_search_62 0 rfl rfl ?_
              refine x_getc 30 26 57 57 fl_P_63 tk_23_26 (hM.at 0 rfl) rfl rfl d_P_search_63 ?_
              refine x_iload_n d_P_search_66 3 rfl rfl ?_
              refine x_iconst d_P_search_67 ?_
              refine x_isub d_P_search_68 ?_
              refine x_iald 57 (c + 1) (hM.at 18 rfl) rfl ⟨by decide, rfl, by decide⟩ rfl (by omega) hv57 d_P_search_69 ?_
              refine x_bipush d_P_search_70 rfl ?_
              refine x_icmp_eq (tgt := 91) d_P_search_72 rfl (by omega) (by omega) (fun c72 => ?_) (fun c72 => ?_)
              · have hK : ndK (gM R) a (mEnv R) cost s (c + 1) := ⟨hv1.2, hv2, by omega, by
                  exact Or.inl (by omega)⟩
                have hK6 := ndK_len he hK (by omega) hok.2.2.1 hok.2.1 hcs.2
                refine x_iconst d_P_search_91 ?_
                refine x_goto (tgt := 96) d_P_search_92 rfl ?_
                refine x_istore d_P_search_96 [some (.ref ((σ 30).1)), some (vi cost), some (vi guard), some (vi n), some (vi z2), some (vi 1)] rfl rfl (lr rfl) ?_
                refine x_iload d_P_search_98 rfl ?_
                refine x_if_eq (tgt := 131) d_P_search_100 rfl (by omega) (fun c100 => ?_) (fun c100 => ?_)
                · omega
                · refine x_iload d_P_search_103 rfl ?_
                  refine x_iload_n d_P_search_105 1 rfl rfl ?_
                  refine x_icmp_ne (tgt := 131) d_P_search_106 rfl (by omega) (by omega) (fun c106 => ?_) (fun c106 => ?_)
                  · refine x_iload d_P_search_131 rfl ?_
                    refine x_if_eq (tgt := 152) d_P_search_133 rfl (by omega) (fun c133 => ?_) (fun c133 => ?_)
                    · omega
                    · refine x_iload_n d_P_search_136 3 rfl rfl ?_
                      refine x_bipush d_P_search_137 rfl ?_
                      refine x_icmp_ge (tgt := 152) d_P_search_139 rfl (by omega) (by omega) (fun c139 => ?_) (fun c139 => ?_)
                      · omega
                      · refine x_aload_n d_P_search_142 0 rfl rfl ?_
                        refine x_getc 30 26 57 57 fl_P_63 tk_23_26 (hM.at 0 rfl) rfl rfl d_P_search_143 ?_
                        refine x_iload_n d_P_search_146 3 rfl rfl ?_
                        refine x_iconst d_P_search_147 ?_
                        refine x_iast 57 (hM.at 18 rfl) rfl ⟨by decide, rfl, by decide⟩ rfl (by omega) d_P_search_148 (fun Q4 hQ4 => ?_)
                        refine x_iinc d_P_search_149 rfl [some (.ref ((σ 30).1)), some (vi cost), some (vi guard), some (vi (n + 1)), some (vi z2), some (vi 1)] rfl rfl (lr rfl) ?_
                        refine x_goto (tgt := 9) d_P_search_152 rfl ?_
                        refine V.forget 4 [some (.ref ((σ 30).1)), some (vi cost), some (vi guard), some (vi (n + 1)), none, some (vi 1)] rfl ?_
                        refine V.forget 5 [some (.ref ((σ 30).1)), some (vi cost), some (vi guard), some (vi (n + 1)), none, none] rfl ?_
                        exact ih _ (by rw [← hm]; exact (rowM_next (c := c) (st := s) (by omega) hok.2.2.2).2) (-1 :: (c + 1) :: s) (n + 1) Q4 dn rfl (by rw [List.length_cons, List.length_cons]; omega) (hsr.push (by omega) hf3 hr3 hd3 hK (by omega) hK6 ((show n = (s.length : Int) + 1 by omega) ▸ hQ4))
                  · refine x_aload_n d_P_search_109 0 rfl rfl ?_
                    refine x_getc 30 26 57 57 fl_P_63 tk_23_26 (hM.at 0 rfl) rfl rfl d_P_search_110 ?_
                    refine x_iload_n d_P_search_113 3 rfl rfl ?_
                    refine x_iconst d_P_search_114 ?_
                    refine x_isub d_P_search_115 ?_
                    refine x_iald 57 (c + 1) (hM.at 18 rfl) rfl ⟨by decide, rfl, by decide⟩ rfl (by omega) hv57 d_P_search_116 ?_
                    refine x_bipush d_P_search_117 rfl ?_
                    refine x_icmp_eq (tgt := 152) d_P_search_119 rfl (by omega) (by omega) (fun c119 => ?_) (fun c119 => ?_)
                    · refine x_goto (tgt := 9) d_P_search_152 rfl ?_
                      refine V.forget 4 [some (.ref ((σ 30).1)), some (vi cost), some (vi guard), some (vi n), none, some (vi 1)] rfl ?_
                      refine V.forget 5 [some (.ref ((σ 30).1)), some (vi cost), some (vi guard), some (vi n), none, none] rfl ?_
                      exact ih _ (by rw [← hm]; have := (rowM_next (c := c) (st := s) (by omega) hok.2.2.2).1; have : 0 < 10 ^ (7 - s.length) := Nat.pow_pos (by decide); omega) ((c + 1) :: s) n Q3 dn rfl hn2 (hsr.sev (by omega) hf3 hr3 hd3 hK (by omega) (by omega))
                    · refine x_aload_n d_P_search_122 0 rfl rfl ?_
                      refine x_iload_n d_P_search_123 3 rfl rfl ?_
                      refine x_iload_n d_P_search_124 2 rfl rfl ?_
                      have eE3 := hf3.env
                      refine x_cvv 30 (As := [vi n, vi guard]) (c_P_note (R := Q3) hM (hf3.co hco) (hf3.s7 h7) (eE3.symm ▸ he) ((c + 1) :: s) hr3 hst1 (eE3.symm ▸ hv1) (eE3.symm ▸ (by omega : (ndP (mEnv R) ((c + 1) :: s)).2.2.1 ≤ 3)) n guard hn2 (by rw [List.length_cons]; omega) hgd (eE3.symm ▸ hv4) (eE3.symm ▸ hv5) (eE3.symm ▸ hv6) dn hd3 (by have := hsr.len; omega)) cs_P_158 hthis rfl rfl (lr rfl) d_P_search_125 (lr rfl) ⟨lr rfl, lr rfl⟩ (fun Q5 hQ5 => ?_)
                      obtain ⟨hx1, hd4⟩ := hQ5
                      rw [eE3, hf3.gm] at hd4
                      have hf4 : mFr R Q5 := fun p q a b c d e f => (hx1 p q a b c d (by omega)).trans (hf3 p q a b c d e f)
                      have hr4 : mRow Q5 ((c + 1) :: s) := hr3.kept (fun i a b => hx1 57 i (by decide) (by decide) (by decide) (by decide) (by omega))
                      refine x_goto (tgt := 152) d_P_search_128 rfl ?_
                      refine x_goto (tgt := 9) d_P_search_152 rfl ?_
                      refine V.forget 4 [some (.ref ((σ 30).1)), some (vi cost), some (vi guard), some (vi n), none, some (vi 1)] rfl ?_
                      refine V.forget 5 [some (.ref ((σ 30).1)), some (vi cost), some (vi guard), some (vi n), none, none] rfl ?_
                      exact ih _ (by rw [← hm]; have := (rowM_next (c := c) (st := s) (by omega) hok.2.2.2).1; have : 0 < 10 ^ (7 - s.length) := Nat.pow_pos (by decide); omega) ((c + 1) :: s) n Q5 _ rfl hn2 (hsr.noted (by omega) hf4 hr4 hK (by omega) (by omega) hd4)
              · refine x_aload_n d_P_search_75 0 rfl rfl ?_
                refine x_aload_n d_P_search_76 0 rfl rfl ?_
                refine x_geti 30 27 27 (Q3 30 27) fl_P_149 tk_23_27 (hM.at 0 rfl) rfl rfl rfl d_P_search_77 ?_
                refine x_iconst d_P_search_80 ?_
                refine x_cvm 30 (As := [vi (Q3 30 27), vi 0]) (c_P_wrongAt (R := Q3) hM (hf3.co hco) (hf3.s7 h7) (Q3 30 27) 0 (by omega) (Or.inl rfl) (fun j q1 q2 => by rw [hv6 j q1 (by omega)]; exact hrng.2.2.2.2.2.2.2.2 j q1 (by omega))) cs_P_138 hthis rfl rfl (lr rfl) d_P_search_81 (lr rfl) ⟨lr rfl, lr rfl⟩ (fun z6 Q7 hQ7 => ?_)
                obtain ⟨hw1, z0, hw2, hw3⟩ := hQ7
                rw [if_pos rfl] at hw3
                rw [hf3.gm] at hw2
                have hpz : pz (gM R) a (ndP (mEnv R) ((c + 1) :: s)).2.2.2.2 (ndP (mEnv R) ((c + 1) :: s)).1 = z0 := pz_eq hw ho hc (fun j q1 q2 => hrng.2.2.2.2.2.2.2.2 j q1 q2) (pR.congr (fun j q1 q2 => hv6 j q1 (by omega)) (hv4 ▸ hw2))
                have hzr := pR.rng (by omega) (fun j q1 q2 => by rw [hv6 j q1 (by omega)]; exact hrng.2.2.2.2.2.2.2.2 j q1 (by omega)) hw2
                have hf2 := hf3
                have hw27 := hw1 30 27 (by decide)
                replace hf3 : mFr R Q7 := fun p q a b c d e f => (hw1 p q b).trans (hf2 p q a b c d e f)
                replace hr3 : mRow Q7 ((c + 1) :: s) := hr3.kept (fun i a b => hw1 57 i (by decide))
                replace hd3 : mFd Q7 dn := hd3.kept (hw1 30 22 (by decide)) (fun p q hp => hw1 p q (by omega))
                replace hv57 : Q7 57 (n - 1) = c + 1 := by rw [hn1]; exact hr3.1
                replace hv4 := (hw1 30 27 (by decide)).trans hv4
                replace hv5 := (hw1 30 28 (by decide)).trans hv5
                replace hv6 : ∀ j, 0 ≤ j → j < (ndP (mEnv R) ((c + 1) :: s)).1 → Q7 49 j = (ndP (mEnv R) ((c + 1) :: s)).2.2.2.2 j := fun j a b => (hw1 49 j (by decide)).trans (hv6 j a b)
                refine x_aload_n d_P_search_84 0 rfl rfl ?_
                refine x_geti 30 27 27 (Q7 30 27) fl_P_149 tk_23_27 (hM.at 0 rfl) rfl rfl rfl d_P_search_85 ?_
                refine x_icmp_ne (tgt := 95) d_P_search_88 rfl (by omega) (by omega) (fun c88 => ?_) (fun c88 => ?_)
                · have hno : ¬ ndK (gM R) a (mEnv R) cost s (c + 1) := fun q => by
                    rcases q.2.2.2 with q2 | q2
                    · omega
                    · unfold ndG at q2
                      rw [hpz] at q2
                      by_cases z00 : z0 < 0
                      · rw [if_pos z00] at hw3; omega
                      · rw [if_neg z00] at hw3; omega
                  refine x_iconst d_P_search_95 ?_
                  refine x_istore d_P_search_96 [some (.ref ((σ 30).1)), some (vi cost), some (vi guard), some (vi n), some (vi z2), some (vi 0)] rfl rfl (lr rfl) ?_
                  refine x_iload d_P_search_98 rfl ?_
                  refine x_if_eq (tgt := 131) d_P_search_100 rfl (by omega) (fun c100 => ?_) (fun c100 => ?_)
                  · refine x_iload d_P_search_131 rfl ?_
                    refine x_if_eq (tgt := 152) d_P_search_133 rfl (by omega) (fun c133 => ?_) (fun c133 => ?_)
                    · refine x_goto (tgt := 9) d_P_search_152 rfl ?_
                      refine V.forget 4 [some (.ref ((σ 30).1)), some (vi cost), some (vi guard), some (vi n), none, some (vi 0)] rfl ?_
                      refine V.forget 5 [some (.ref ((σ 30).1)), some (vi cost), some (vi guard), some (vi n), none, none] rfl ?_
                      exact ih _ (by rw [← hm]; have := (rowM_next (c := c) (st := s) (by omega) hok.2.2.2).1; have : 0 < 10 ^ (7 - s.length) := Nat.pow_pos (by decide); omega) ((c + 1) :: s) n Q7 dn rfl hn2 (hsr.no (by omega) hf3 hr3 hd3 hno)
                    · omega
                  · omega
                · have hK : ndK (gM R) a (mEnv R) cost s (c + 1) := ⟨hv1.2, hv2, by omega, by
                    refine Or.inr ?_
                    unfold ndG
                    rw [hpz]
                    by_cases z00 : z0 < 0
                    · exact Or.inl z00
                    · rw [if_neg z00] at hw3; exact Or.inr (by omega)⟩
                  have hK6 := ndK_len he hK (by omega) hok.2.2.1 hok.2.1 hcs.2
                  refine x_iconst d_P_search_91 ?_
                  refine x_goto (tgt := 96) d_P_search_92 rfl ?_
                  refine x_istore d_P_search_96 [some (.ref ((σ 30).1)), some (vi cost), some (vi guard), some (vi n), some (vi z2), some (vi 1)] rfl rfl (lr rfl) ?_
                  refine x_iload d_P_search_98 rfl ?_
                  refine x_if_eq (tgt := 131) d_P_search_100 rfl (by omega) (fun c100 => ?_) (fun c100 => ?_)
                  · omega
                  · refine x_iload d_P_search_103 rfl ?_
                    refine x_iload_n d_P_search_105 1 rfl rfl ?_
                    refine x_icmp_ne (tgt := 131) d_P_search_106 rfl (by omega) (by omega) (fun c106 => ?_) (fun c106 => ?_)
                    · refine x_iload d_P_search_131 rfl ?_
                      refine x_if_eq (tgt := 152) d_P_search_133 rfl (by omega) (fun c133 => ?_) (fun c133 => ?_)
                      · omega
                      · refine x_iload_n d_P_search_136 3 rfl rfl ?_
                        refine x_bipush d_P_search_137 rfl ?_
                        refine x_icmp_ge (tgt := 152) d_P_search_139 rfl (by omega) (by omega) (fun c139 => ?_) (fun c139 => ?_)
                        · omega
                        · refine x_aload_n d_P_search_142 0 rfl rfl ?_
                          refine x_getc 30 26 57 57 fl_P_63 tk_23_26 (hM.at 0 rfl) rfl rfl d_P_search_143 ?_
                          refine x_iload_n d_P_search_146 3 rfl rfl ?_
                          refine x_iconst d_P_search_147 ?_
                          refine x_iast 57 (hM.at 18 rfl) rfl ⟨by decide, rfl, by decide⟩ rfl (by omega) d_P_search_148 (fun Q8 hQ8 => ?_)
                          refine x_iinc d_P_search_149 rfl [some (.ref ((σ 30).1)), some (vi cost), some (vi guard), some (vi (n + 1)), some (vi z2), some (vi 1)] rfl rfl (lr rfl) ?_
                          refine x_goto (tgt := 9) d_P_search_152 rfl ?_
                          refine V.forget 4 [some (.ref ((σ 30).1)), some (vi cost), some (vi guard), some (vi (n + 1)), none, some (vi 1)] rfl ?_
                          refine V.forget 5 [some (.ref ((σ 30).1)), some (vi cost), some (vi guard), some (vi (n + 1)), none, none] rfl ?_
                          exact ih _ (by rw [← hm]; exact (rowM_next (c := c) (st := s) (by omega) hok.2.2.2).2) (-1 :: (c + 1) :: s) (n + 1) Q8 dn rfl (by rw [List.length_cons, List.length_cons]; omega) (hsr.push (by omega) hf3 hr3 hd3 hK (by omega) hK6 ((show n = (s.length : Int) + 1 by omega) ▸ hQ8))
                    · refine x_aload_n d_P_search_109 0 rfl rfl ?_
                      refine x_getc 30 26 57 57 fl_P_63 tk_23_26 (hM.at 0 rfl) rfl rfl d_P_search_110 ?_
                      refine x_iload_n d_P_search_113 3 rfl rfl ?_
                      refine x_iconst d_P_search_114 ?_
                      refine x_isub d_P_search_115 ?_
                      refine x_iald 57 (c + 1) (hM.at 18 rfl) rfl ⟨by decide, rfl, by decide⟩ rfl (by omega) hv57 d_P_search_116 ?_
                      refine x_bipush d_P_search_117 rfl ?_
                      refine x_icmp_eq (tgt := 152) d_P_search_119 rfl (by omega) (by omega) (fun c119 => ?_) (fun c119 => ?_)
                      · refine x_goto (tgt := 9) d_P_search_152 rfl ?_
                        refine V.forget 4 [some (.ref ((σ 30).1)), some (vi cost), some (vi guard), some (vi n), none, some (vi 1)] rfl ?_
                        refine V.forget 5 [some (.ref ((σ 30).1)), some (vi cost), some (vi guard), some (vi n), none, none] rfl ?_
                        exact ih _ (by rw [← hm]; have := (rowM_next (c := c) (st := s) (by omega) hok.2.2.2).1; have : 0 < 10 ^ (7 - s.length) := Nat.pow_pos (by decide); omega) ((c + 1) :: s) n Q7 dn rfl hn2 (hsr.sev (by omega) hf3 hr3 hd3 hK (by omega) (by omega))
                      · refine x_aload_n d_P_search_122 0 rfl rfl ?_
                        refine x_iload_n d_P_search_123 3 rfl rfl ?_
                        refine x_iload_n d_P_search_124 2 rfl rfl ?_
                        have eE3 := hf3.env
                        refine x_cvv 30 (As := [vi n, vi guard]) (c_P_note (R := Q7) hM (hf3.co hco) (hf3.s7 h7) (eE3.symm ▸ he) ((c + 1) :: s) hr3 hst1 (eE3.symm ▸ hv1) (eE3.symm ▸ (by omega : (ndP (mEnv R) ((c + 1) :: s)).2.2.1 ≤ 3)) n guard hn2 (by rw [List.length_cons]; omega) hgd (eE3.symm ▸ hv4) (eE3.symm ▸ hv5) (eE3.symm ▸ hv6) dn hd3 (by have := hsr.len; omega)) cs_P_158 hthis rfl rfl (lr rfl) d_P_search_125 (lr rfl) ⟨lr rfl, lr rfl⟩ (fun Q9 hQ9 => ?_)
                        obtain ⟨hx1, hd4⟩ := hQ9
                        rw [eE3, hf3.gm] at hd4
                        have hf4 : mFr R Q9 := fun p q a b c d e f => (hx1 p q a b c d (by omega)).trans (hf3 p q a b c d e f)
                        have hr4 : mRow Q9 ((c + 1) :: s) := hr3.kept (fun i a b => hx1 57 i (by decide) (by decide) (by decide) (by decide) (by omega))
                        refine x_goto (tgt := 152) d_P_search_128 rfl ?_
                        refine x_goto (tgt := 9) d_P_search_152 rfl ?_
                        refine V.forget 4 [some (.ref ((σ 30).1)), some (vi cost), some (vi guard), some (vi n), none, some (vi 1)] rfl ?_
                        refine V.forget 5 [some (.ref ((σ 30).1)), some (vi cost), some (vi guard), some (vi n), none, none] rfl ?_
                        exact ih _ (by rw [← hm]; have := (rowM_next (c := c) (st := s) (by omega) hok.2.2.2).1; have : 0 < 10 ^ (7 - s.length) := Nat.pow_pos (by decide); omega) ((c + 1) :: s) n Q9 _ rfl hn2 (hsr.noted (by omega) hf4 hr4 hK (by omega) (by omega) hd4)
        · refine x_iinc d_P_search_38 rfl [some (.ref ((σ 30).1)), some (vi cost), some (vi guard), some (vi (n + (-1))), none, none] rfl rfl (lr rfl) ?_
          refine x_goto (tgt := 9) d_P_search_41 rfl ?_
          have hnew := hsr.pop (by omega) (hn1 ▸ hQ1)
          exact ih _ (by rw [← hm]; exact rowM_pop (by omega)) s (n - 1) Q1 dn rfl hn1 hnew
  refine x_iconst d_P_search_0 ?_
  refine x_istore_n d_P_search_1 3 rfl [some (.ref ((σ 30).1)), some (vi cost), some (vi guard), some (vi 1), none, none] rfl rfl (lr rfl) ?_
  refine x_aload_n d_P_search_2 0 rfl rfl ?_
  refine x_getc 30 26 57 57 fl_P_63 tk_23_26 (hM.at 0 rfl) rfl rfl d_P_search_3 ?_
  refine x_iconst d_P_search_6 ?_
  refine x_iconst d_P_search_7 ?_
  refine x_iast 57 (hM.at 18 rfl) rfl ⟨by decide, rfl, by decide⟩ rfl (by omega) d_P_search_8 (fun Q1 hQ1 => ?_)
  exact hl _ [-1] 1 Q1 [] rfl rfl ⟨fun p q a b c d f g => xr_o hQ1 f, ⟨xr_s hQ1, trivial⟩, ⟨(xr_o hQ1 (by decide)).trans h0, fun k q h => by cases h⟩, by rw [rem_start, List.nil_append], ⟨by decide, by decide⟩, fun x hx => (by cases hx), trivial, by decide⟩
