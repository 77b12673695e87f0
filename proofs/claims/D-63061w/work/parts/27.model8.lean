/-! the model: follows, note (walks printed by gen/model8.py) -/
theorem stOk_suf {st sk : List Int} (h : stOk st) (hp : ∃ pre, st = pre ++ sk) : stOk sk := by
  obtain ⟨pre, rfl⟩ := hp
  exact fun c hc => h c (List.mem_append_right _ hc)
theorem pre_split {st sk : List Int} (hp : ∃ pre, st = pre ++ sk) (h : sk.length < st.length) : ∃ pre2 c, st = pre2 ++ c :: sk := by
  obtain ⟨pre, rfl⟩ := hp
  have hne : pre ≠ [] := fun e => by rw [e] at h; exact absurd h (Nat.lt_irrefl _)
  refine ⟨pre.dropLast, pre.getLast hne, ?_⟩
  have e := List.dropLast_concat_getLast hne
  calc pre ++ sk = (pre.dropLast ++ [pre.getLast hne]) ++ sk := by rw [e]
    _ = _ := by rw [List.append_assoc]; rfl
set_option maxHeartbeats 4000000 in
set_option maxRecDepth 100000 in
theorem c_P_follows {σ : xS} {R : xR} (hM : xsh σ mshape) (he : enOk (mEnv R)) (st : List Int) (hrow : mRow R st) (hst : stOk st) (many : Int) (hmany : many = (st.length : Int)) (hm7 : st.length ≤ 7) : Ct m_P_follows 1 0 0 [.ref (σ 30).1, vi many] σ R (Zm σ (fun z R1 => mFw R R1 st z)) := by
  refine Ct.of [some (.ref ((σ 30).1)), some (vi many), none, none, none, none] rfl (by decide +kernel) (lr rfl) (fun X => ?_)
  have he1 : 0 ≤ R 30 15 ∧ R 30 15 ≤ 16 := he.1
  have he5 : 0 ≤ R 30 16 ∧ R 30 16 ≤ R 30 15 := he.2.2.2.2
  have hl1 : ∀ (m : Nat) (k : Int) (R1 : xR), (16 - k).toNat = m → (0 ≤ k ∧ k ≤ R 30 16) → (∀ p q, p ≠ 49 → ¬ (p = 30 ∧ (q = 27 ∨ q = 28)) → R1 p q = R p q) → (R1 30 27 = R 30 16) → (R1 30 28 = R 30 16) → (∀ j, 0 ≤ j → j < k → R1 49 j = R 48 j) → V X m_P_follows (1, 0, 0, Zm σ (fun z R1 => mFw R R1 st z)) σ R1 0 0 23 [some (.ref ((σ 30).1)), some (vi many), some (vi 0), some (vi 0), some (vi k), none] [] := by
    intro m
    induction m using Nat.strongRecOn with
    | _ m ih =>
      intro k R1 hm hk1 hkp h27 h28 hcp
      refine x_iload d_P_follows_23 rfl ?_
      refine x_aload_n d_P_follows_25 0 rfl rfl ?_
      refine x_geti 30 16 16 (R 30 16) fl_P_146 tk_23_16 (hM.at 0 rfl) rfl rfl (hkp 30 16 (by decide) (by decide)) d_P_follows_26 ?_
      refine x_icmp_ge (tgt := 52) d_P_follows_29 rfl (by omega) (by omega) (fun c29 => ?_) (fun c29 => ?_)
      · refine x_iconst d_P_follows_52 ?_
        refine x_istore d_P_follows_53 [some (.ref ((σ 30).1)), some (vi many), some (vi 0), some (vi 0), some (vi 0), none] rfl rfl (lr rfl) ?_
        have hl2 : ∀ (m : Nat) (k : Int) (sum : Int) (passes : Int) (sk : List Int) (R1 : xR), (many - k).toNat = m → (k = (sk.length : Int)) → (k ≤ many) → (∃ pre, st = pre ++ sk) → (mFo R R1 sk sum passes) → V X m_P_follows (1, 0, 0, Zm σ (fun z R1 => mFw R R1 st z)) σ R1 0 0 55 [some (.ref ((σ 30).1)), some (vi many), some (vi sum), some (vi passes), some (vi k), none] [] := by
          intro m
          induction m using Nat.strongRecOn with
          | _ m ih =>
            intro k sum passes sk R1 hm hk1 hk2 hpre hfo
            have hrng := ndV.rng he (stOk_suf hst hpre) hfo.2.1
            have hz27 := hfo.2.2.2.2.1
            have hz28 := hfo.2.2.2.2.2.1
            have hs1 := hfo.2.2.1
            have hs2 := hfo.2.2.2.1
            have hpas := ndP_pass (e := mEnv R) (st := sk)
            refine x_iload d_P_follows_55 rfl ?_
            refine x_iload_n d_P_follows_57 1 rfl rfl ?_
            refine x_icmp_ge (tgt := 253) d_P_follows_58 rfl (by omega) (by omega) (fun c58 => ?_) (fun c58 => ?_)
            · have esk : sk = st := by
                obtain ⟨pre, hpre2⟩ := hpre
                have : pre.length = 0 := by have := congrArg List.length hpre2; rw [List.length_append] at this; omega
                rw [hpre2, List.eq_nil_of_length_eq_zero this]; rfl
              subst esk
              refine x_iload_n d_P_follows_253 3 rfl rfl ?_
              refine x_iconst d_P_follows_254 ?_
              refine x_icmp_le (tgt := 262) d_P_follows_255 rfl (by omega) (by omega) (fun c255 => ?_) (fun c255 => ?_)
              · refine x_iload_n d_P_follows_262 2 rfl rfl ?_
                exact x_iret d_P_follows_263 rfl (lr rfl) (lr rfl) (⟨_, rfl, rfl, hfo.1, Or.inl ⟨hfo.2.1, by omega, hfo.2.2.1, hfo.2.2.2.2.1, hfo.2.2.2.2.2.1, hfo.2.2.2.2.2.2⟩⟩)
              · refine x_iconst d_P_follows_258 ?_
                refine x_goto (tgt := 263) d_P_follows_259 rfl ?_
                exact x_iret d_P_follows_263 rfl (lr rfl) (lr rfl) (⟨_, rfl, rfl, hfo.1, Or.inr ⟨fun q => by have := q.2; omega, rfl⟩⟩)
            · obtain ⟨pre2, c, hpc⟩ := pre_split hpre (by omega)
              have hrw : mRow R (c :: sk) := (hpc ▸ hrow).suf
              have ec : R 57 k = c := by rw [hk1]; exact hrw.1
              have hc := hst c (by rw [hpc]; exact List.mem_append_right _ List.mem_cons_self)
              have hen1 : (mEnv R).1 = R 30 15 := rfl
              refine x_aload_n d_P_follows_61 0 rfl rfl ?_
              refine x_getc 30 26 57 57 fl_P_63 tk_23_26 (hM.at 0 rfl) rfl rfl d_P_follows_62 ?_
              refine x_iload d_P_follows_65 rfl ?_
              refine x_iald 57 c (hM.at 18 rfl) rfl ⟨by decide, rfl, by decide⟩ rfl (by omega) ((hfo.1 57 k (by decide) (by omega)).trans ec) d_P_follows_67 ?_
              refine x_istore d_P_follows_68 [some (.ref ((σ 30).1)), some (vi many), some (vi sum), some (vi passes), some (vi k), some (vi c)] rfl rfl (lr rfl) ?_
              refine x_iload d_P_follows_70 rfl ?_
              refine x_bipush d_P_follows_72 rfl ?_
              refine x_icmp_lt (tgt := 88) d_P_follows_74 rfl (by omega) (by omega) (fun c74 => ?_) (fun c74 => ?_)
              · refine x_iload d_P_follows_88 rfl ?_
                refine x_bipush d_P_follows_90 rfl ?_
                refine x_icmp_ge (tgt := 116) d_P_follows_92 rfl (by omega) (by omega) (fun c92 => ?_) (fun c92 => ?_)
                · omega
                · refine x_iload d_P_follows_95 rfl ?_
                  refine x_if_le (tgt := 116) d_P_follows_97 rfl (by omega) (fun c97 => ?_) (fun c97 => ?_)
                  · have hok : ndO (mEnv R) sk c := by
                      refine ⟨fun q => ?_, fun q => ?_⟩
                      · have := q.1; have := q.2; first | omega | (have q2 : R 30 15 ≤ (ndP (mEnv R) sk).2.1 := q.2; omega)
                      · obtain ⟨q1, st9, q2⟩ := q
                        first | omega | (rw [q2] at hk1; rw [List.length_cons] at hk1; omega) | (rw [hsk] at q2; cases q2; exact absurd rfl c111)
                    refine x_iload_n d_P_follows_116 2 rfl rfl ?_
                    refine x_iload d_P_follows_117 rfl ?_
                    refine x_bipush d_P_follows_119 rfl ?_
                    refine x_icmp_ge (tgt := 134) d_P_follows_121 rfl (by omega) (by omega) (fun c121 => ?_) (fun c121 => ?_)
                    · omega
                    · have hpcst := he.2.2.1 c (by omega) (by omega)
                      have hpc1 : 1 ≤ R 51 c ∧ R 51 c ≤ 3 := hpcst
                      refine x_aload_n d_P_follows_124 0 rfl rfl ?_
                      refine x_getc 30 20 51 51 fl_P_51 tk_23_20 (hM.at 0 rfl) rfl rfl d_P_follows_125 ?_
                      refine x_iload d_P_follows_128 rfl ?_
                      refine x_iald 51 (R 51 c) (hM.at 14 rfl) rfl ⟨by decide, rfl, by decide⟩ rfl (by omega) (hfo.1 51 _ (by decide) (by omega)) d_P_follows_130 ?_
                      refine x_goto (tgt := 159) d_P_follows_131 rfl ?_
                      refine x_iadd d_P_follows_159 ?_
                      refine x_istore_n d_P_follows_160 2 rfl [some (.ref ((σ 30).1)), some (vi many), some (vi (sum + (R 51 c))), some (vi passes), some (vi k), some (vi c)] rfl rfl (lr rfl) ?_
                      refine x_iload d_P_follows_161 rfl ?_
                      refine x_bipush d_P_follows_163 rfl ?_
                      refine x_icmp_ne (tgt := 174) d_P_follows_165 rfl (by omega) (by omega) (fun c165 => ?_) (fun c165 => ?_)
                      · refine x_iload_n d_P_follows_174 3 rfl rfl ?_
                        refine x_istore_n d_P_follows_175 3 rfl [some (.ref ((σ 30).1)), some (vi many), some (vi (sum + (R 51 c))), some (vi passes), some (vi k), some (vi c)] rfl rfl (lr rfl) ?_
                        refine x_iload d_P_follows_176 rfl ?_
                        refine x_bipush d_P_follows_178 rfl ?_
                        refine x_icmp_eq (tgt := 223) d_P_follows_180 rfl (by omega) (by omega) (fun c180 => ?_) (fun c180 => ?_)
                        · omega
                        · refine x_aload_n d_P_follows_183 0 rfl rfl ?_
                          refine x_getc 30 18 49 49 fl_P_45 tk_23_18 (hM.at 0 rfl) rfl rfl d_P_follows_184 ?_
                          refine x_aload_n d_P_follows_187 0 rfl rfl ?_
                          refine x_geti 30 27 27 (R1 30 27) fl_P_149 tk_23_27 (hM.at 0 rfl) rfl rfl rfl d_P_follows_188 ?_
                          refine x_iload d_P_follows_191 rfl ?_
                          refine x_bipush d_P_follows_193 rfl ?_
                          refine x_icmp_ge (tgt := 203) d_P_follows_195 rfl (by omega) (by omega) (fun c195 => ?_) (fun c195 => ?_)
                          · omega
                          · refine x_iload d_P_follows_198 rfl ?_
                            refine x_goto (tgt := 212) d_P_follows_200 rfl ?_
                            refine x_iast 49 (hM.at 12 rfl) rfl ⟨by decide, rfl, by decide⟩ rfl (by omega) d_P_follows_212 (fun Q1 hQ1 => ?_)
                            refine x_aload_n d_P_follows_213 0 rfl rfl ?_
                            refine x_dup d_P_follows_214 rfl ?_
                            refine x_geti 30 27 27 (R1 30 27) fl_P_149 tk_23_27 (hM.at 0 rfl) rfl rfl (xr_o hQ1 (by decide)) d_P_follows_215 ?_
                            refine x_iconst d_P_follows_218 ?_
                            refine x_iadd d_P_follows_219 ?_
                            refine x_puti 30 27 27 fp_P_149 tk_23_27 (hM.at 0 rfl) rfl rfl d_P_follows_220 (fun Q2 hQ2 => ?_)
                            refine x_aload_n d_P_follows_223 0 rfl rfl ?_
                            refine x_iload d_P_follows_224 rfl ?_
                            refine x_bipush d_P_follows_226 rfl ?_
                            refine x_icmp_lt (tgt := 240) d_P_follows_228 rfl (by omega) (by omega) (fun c228 => ?_) (fun c228 => ?_)
                            · refine x_aload_n d_P_follows_240 0 rfl rfl ?_
                              refine x_geti 30 28 28 (R1 30 28) fl_P_152 tk_23_28 (hM.at 0 rfl) rfl rfl ((xr_d hQ2 (by decide)).trans (xr_o hQ1 (by decide))) d_P_follows_241 ?_
                              refine x_puti 30 28 28 fp_P_152 tk_23_28 (hM.at 0 rfl) rfl rfl d_P_follows_244 (fun Q3 hQ3 => ?_)
                              refine x_iinc d_P_follows_247 rfl [some (.ref ((σ 30).1)), some (vi many), some (vi (sum + (R 51 c))), some (vi passes), some (vi (k + 1)), some (vi c)] rfl rfl (lr rfl) ?_
                              refine x_goto (tgt := 55) d_P_follows_250 rfl ?_
                              refine V.forget 5 [some (.ref ((σ 30).1)), some (vi many), some (vi (sum + (R 51 c))), some (vi passes), some (vi (k + 1)), none] rfl ?_
                              exact ih _ (by omega) (k + 1) (sum + (R 51 c)) passes (c :: sk) Q3 rfl (by rw [List.length_cons]; omega) (by omega) ⟨pre2, hpc⟩ (hfo.put hok (by omega) hQ1 hQ2 hQ3)
                            · omega
                      · omega
                  · obtain ⟨c0, sk0, hsk⟩ : ∃ c0 sk0, sk = c0 :: sk0 := by
                      cases sk with
                      | nil => rw [show (([] : List Int).length : Int) = 0 from rfl] at hk1; omega
                      | cons c0 sk0 => exact ⟨c0, sk0, rfl⟩
                    have ec0 : R 57 (k - 1) = c0 := by rw [hk1, hsk, show (((c0 :: sk0).length : Int) - 1) = (sk0.length : Int) by rw [List.length_cons]; omega]; exact (hsk ▸ hrw.2 : mRow R (c0 :: sk0)).1
                    have hc0 := hst c0 (by rw [hpc]; exact List.mem_append_right _ (List.mem_cons_of_mem _ (hsk ▸ List.mem_cons_self)))
                    refine x_aload_n d_P_follows_100 0 rfl rfl ?_
                    refine x_getc 30 26 57 57 fl_P_63 tk_23_26 (hM.at 0 rfl) rfl rfl d_P_follows_101 ?_
                    refine x_iload d_P_follows_104 rfl ?_
                    refine x_iconst d_P_follows_106 ?_
                    refine x_isub d_P_follows_107 ?_
                    refine x_iald 57 c0 (hM.at 18 rfl) rfl ⟨by decide, rfl, by decide⟩ rfl (by omega) ((hfo.1 57 (k - 1) (by decide) (by omega)).trans ec0) d_P_follows_108 ?_
                    refine x_bipush d_P_follows_109 rfl ?_
                    refine x_icmp_ne (tgt := 116) d_P_follows_111 rfl (by omega) (by omega) (fun c111 => ?_) (fun c111 => ?_)
                    · have hok : ndO (mEnv R) sk c := by
                        refine ⟨fun q => ?_, fun q => ?_⟩
                        · have := q.1; have := q.2; first | omega | (have q2 : R 30 15 ≤ (ndP (mEnv R) sk).2.1 := q.2; omega)
                        · obtain ⟨q1, st9, q2⟩ := q
                          first | omega | (rw [q2] at hk1; rw [List.length_cons] at hk1; omega) | (rw [hsk] at q2; cases q2; exact absurd rfl c111)
                      refine x_iload_n d_P_follows_116 2 rfl rfl ?_
                      refine x_iload d_P_follows_117 rfl ?_
                      refine x_bipush d_P_follows_119 rfl ?_
                      refine x_icmp_ge (tgt := 134) d_P_follows_121 rfl (by omega) (by omega) (fun c121 => ?_) (fun c121 => ?_)
                      · omega
                      · have hpcst := he.2.2.1 c (by omega) (by omega)
                        have hpc1 : 1 ≤ R 51 c ∧ R 51 c ≤ 3 := hpcst
                        refine x_aload_n d_P_follows_124 0 rfl rfl ?_
                        refine x_getc 30 20 51 51 fl_P_51 tk_23_20 (hM.at 0 rfl) rfl rfl d_P_follows_125 ?_
                        refine x_iload d_P_follows_128 rfl ?_
                        refine x_iald 51 (R 51 c) (hM.at 14 rfl) rfl ⟨by decide, rfl, by decide⟩ rfl (by omega) (hfo.1 51 _ (by decide) (by omega)) d_P_follows_130 ?_
                        refine x_goto (tgt := 159) d_P_follows_131 rfl ?_
                        refine x_iadd d_P_follows_159 ?_
                        refine x_istore_n d_P_follows_160 2 rfl [some (.ref ((σ 30).1)), some (vi many), some (vi (sum + (R 51 c))), some (vi passes), some (vi k), some (vi c)] rfl rfl (lr rfl) ?_
                        refine x_iload d_P_follows_161 rfl ?_
                        refine x_bipush d_P_follows_163 rfl ?_
                        refine x_icmp_ne (tgt := 174) d_P_follows_165 rfl (by omega) (by omega) (fun c165 => ?_) (fun c165 => ?_)
                        · refine x_iload_n d_P_follows_174 3 rfl rfl ?_
                          refine x_istore_n d_P_follows_175 3 rfl [some (.ref ((σ 30).1)), some (vi many), some (vi (sum + (R 51 c))), some (vi passes), some (vi k), some (vi c)] rfl rfl (lr rfl) ?_
                          refine x_iload d_P_follows_176 rfl ?_
                          refine x_bipush d_P_follows_178 rfl ?_
                          refine x_icmp_eq (tgt := 223) d_P_follows_180 rfl (by omega) (by omega) (fun c180 => ?_) (fun c180 => ?_)
                          · omega
                          · refine x_aload_n d_P_follows_183 0 rfl rfl ?_
                            refine x_getc 30 18 49 49 fl_P_45 tk_23_18 (hM.at 0 rfl) rfl rfl d_P_follows_184 ?_
                            refine x_aload_n d_P_follows_187 0 rfl rfl ?_
                            refine x_geti 30 27 27 (R1 30 27) fl_P_149 tk_23_27 (hM.at 0 rfl) rfl rfl rfl d_P_follows_188 ?_
                            refine x_iload d_P_follows_191 rfl ?_
                            refine x_bipush d_P_follows_193 rfl ?_
                            refine x_icmp_ge (tgt := 203) d_P_follows_195 rfl (by omega) (by omega) (fun c195 => ?_) (fun c195 => ?_)
                            · omega
                            · refine x_iload d_P_follows_198 rfl ?_
                              refine x_goto (tgt := 212) d_P_follows_200 rfl ?_
                              refine x_iast 49 (hM.at 12 rfl) rfl ⟨by decide, rfl, by decide⟩ rfl (by omega) d_P_follows_212 (fun Q4 hQ4 => ?_)
                              refine x_aload_n d_P_follows_213 0 rfl rfl ?_
                              refine x_dup d_P_follows_214 rfl ?_
                              refine x_geti 30 27 27 (R1 30 27) fl_P_149 tk_23_27 (hM.at 0 rfl) rfl rfl (xr_o hQ4 (by decide)) d_P_follows_215 ?_
                              refine x_iconst d_P_follows_218 ?_
                              refine x_iadd d_P_follows_219 ?_
                              refine x_puti 30 27 27 fp_P_149 tk_23_27 (hM.at 0 rfl) rfl rfl d_P_follows_220 (fun Q5 hQ5 => ?_)
                              refine x_aload_n d_P_follows_223 0 rfl rfl ?_
                              refine x_iload d_P_follows_224 rfl ?_
                              refine x_bipush d_P_follows_226 rfl ?_
                              refine x_icmp_lt (tgt := 240) d_P_follows_228 rfl (by omega) (by omega) (fun c228 => ?_) (fun c228 => ?_)
                              · refine x_aload_n d_P_follows_240 0 rfl rfl ?_
                                refine x_geti 30 28 28 (R1 30 28) fl_P_152 tk_23_28 (hM.at 0 rfl) rfl rfl ((xr_d hQ5 (by decide)).trans (xr_o hQ4 (by decide))) d_P_follows_241 ?_
                                refine x_puti 30 28 28 fp_P_152 tk_23_28 (hM.at 0 rfl) rfl rfl d_P_follows_244 (fun Q6 hQ6 => ?_)
                                refine x_iinc d_P_follows_247 rfl [some (.ref ((σ 30).1)), some (vi many), some (vi (sum + (R 51 c))), some (vi passes), some (vi (k + 1)), some (vi c)] rfl rfl (lr rfl) ?_
                                refine x_goto (tgt := 55) d_P_follows_250 rfl ?_
                                refine V.forget 5 [some (.ref ((σ 30).1)), some (vi many), some (vi (sum + (R 51 c))), some (vi passes), some (vi (k + 1)), none] rfl ?_
                                exact ih _ (by omega) (k + 1) (sum + (R 51 c)) passes (c :: sk) Q6 rfl (by rw [List.length_cons]; omega) (by omega) ⟨pre2, hpc⟩ (hfo.put hok (by omega) hQ4 hQ5 hQ6)
                              · omega
                        · omega
                    · refine x_iconst d_P_follows_114 ?_
                      exact x_iret d_P_follows_115 rfl (lr rfl) (lr rfl) (⟨_, rfl, rfl, hfo.1, Or.inr ⟨fun q => by have q2 := (hpc ▸ q.1 : ndV (mEnv R) (pre2 ++ c :: sk)).suf.2.2; exact q2 ⟨by omega, sk0, by rw [hsk, show c0 = 6 by omega]⟩, rfl⟩⟩)
              · refine x_aload_n d_P_follows_77 0 rfl rfl ?_
                refine x_geti 30 28 28 (R1 30 28) fl_P_152 tk_23_28 (hM.at 0 rfl) rfl rfl rfl d_P_follows_78 ?_
                refine x_aload_n d_P_follows_81 0 rfl rfl ?_
                refine x_geti 30 15 15 (R 30 15) fl_P_135 tk_23_15 (hM.at 0 rfl) rfl rfl (hfo.1 30 15 (by decide) (by decide)) d_P_follows_82 ?_
                refine x_icmp_ge (tgt := 114) d_P_follows_85 rfl (by omega) (by omega) (fun c85 => ?_) (fun c85 => ?_)
                · refine x_iconst d_P_follows_114 ?_
                  exact x_iret d_P_follows_115 rfl (lr rfl) (lr rfl) (⟨_, rfl, rfl, hfo.1, Or.inr ⟨fun q => by have q2 := (hpc ▸ q.1 : ndV (mEnv R) (pre2 ++ c :: sk)).suf.2.1; exact q2 ⟨by omega, by show R 30 15 ≤ _; omega⟩, rfl⟩⟩)
                · refine x_iload d_P_follows_88 rfl ?_
                  refine x_bipush d_P_follows_90 rfl ?_
                  refine x_icmp_ge (tgt := 116) d_P_follows_92 rfl (by omega) (by omega) (fun c92 => ?_) (fun c92 => ?_)
                  · have hok : ndO (mEnv R) sk c := by
                      refine ⟨fun q => ?_, fun q => ?_⟩
                      · have := q.1; have := q.2; first | omega | (have q2 : R 30 15 ≤ (ndP (mEnv R) sk).2.1 := q.2; omega)
                      · obtain ⟨q1, st9, q2⟩ := q
                        first | omega | (rw [q2] at hk1; rw [List.length_cons] at hk1; omega) | (rw [hsk] at q2; cases q2; exact absurd rfl c111)
                    refine x_iload_n d_P_follows_116 2 rfl rfl ?_
                    refine x_iload d_P_follows_117 rfl ?_
                    refine x_bipush d_P_follows_119 rfl ?_
                    refine x_icmp_ge (tgt := 134) d_P_follows_121 rfl (by omega) (by omega) (fun c121 => ?_) (fun c121 => ?_)
                    · refine x_iload d_P_follows_134 rfl ?_
                      refine x_bipush d_P_follows_136 rfl ?_
                      refine x_icmp_ne (tgt := 158) d_P_follows_138 rfl (by omega) (by omega) (fun c138 => ?_) (fun c138 => ?_)
                      · refine x_iconst d_P_follows_158 ?_
                        refine x_iadd d_P_follows_159 ?_
                        refine x_istore_n d_P_follows_160 2 rfl [some (.ref ((σ 30).1)), some (vi many), some (vi (sum + 0)), some (vi passes), some (vi k), some (vi c)] rfl rfl (lr rfl) ?_
                        refine x_iload d_P_follows_161 rfl ?_
                        refine x_bipush d_P_follows_163 rfl ?_
                        refine x_icmp_ne (tgt := 174) d_P_follows_165 rfl (by omega) (by omega) (fun c165 => ?_) (fun c165 => ?_)
                        · omega
                        · refine x_iload_n d_P_follows_168 3 rfl rfl ?_
                          refine x_iconst d_P_follows_169 ?_
                          refine x_iadd d_P_follows_170 ?_
                          refine x_goto (tgt := 175) d_P_follows_171 rfl ?_
                          refine x_istore_n d_P_follows_175 3 rfl [some (.ref ((σ 30).1)), some (vi many), some (vi (sum + 0)), some (vi (passes + 1)), some (vi k), some (vi c)] rfl rfl (lr rfl) ?_
                          refine x_iload d_P_follows_176 rfl ?_
                          refine x_bipush d_P_follows_178 rfl ?_
                          refine x_icmp_eq (tgt := 223) d_P_follows_180 rfl (by omega) (by omega) (fun c180 => ?_) (fun c180 => ?_)
                          · omega
                          · refine x_aload_n d_P_follows_183 0 rfl rfl ?_
                            refine x_getc 30 18 49 49 fl_P_45 tk_23_18 (hM.at 0 rfl) rfl rfl d_P_follows_184 ?_
                            refine x_aload_n d_P_follows_187 0 rfl rfl ?_
                            refine x_geti 30 27 27 (R1 30 27) fl_P_149 tk_23_27 (hM.at 0 rfl) rfl rfl rfl d_P_follows_188 ?_
                            refine x_iload d_P_follows_191 rfl ?_
                            refine x_bipush d_P_follows_193 rfl ?_
                            refine x_icmp_ge (tgt := 203) d_P_follows_195 rfl (by omega) (by omega) (fun c195 => ?_) (fun c195 => ?_)
                            · have hrl : R1 30 28 < R 30 15 := by omega
                              refine x_aload_n d_P_follows_203 0 rfl rfl ?_
                              refine x_getc 30 17 48 48 fl_P_42 tk_23_17 (hM.at 0 rfl) rfl rfl d_P_follows_204 ?_
                              refine x_aload_n d_P_follows_207 0 rfl rfl ?_
                              refine x_geti 30 28 28 (R1 30 28) fl_P_152 tk_23_28 (hM.at 0 rfl) rfl rfl rfl d_P_follows_208 ?_
                              refine x_iald 48 (R 48 (R1 30 28)) (hM.at 11 rfl) rfl ⟨by decide, rfl, by decide⟩ rfl (by omega) (hfo.1 48 _ (by decide) (by omega)) d_P_follows_211 ?_
                              refine x_iast 49 (hM.at 12 rfl) rfl ⟨by decide, rfl, by decide⟩ rfl (by omega) d_P_follows_212 (fun Q7 hQ7 => ?_)
                              refine x_aload_n d_P_follows_213 0 rfl rfl ?_
                              refine x_dup d_P_follows_214 rfl ?_
                              refine x_geti 30 27 27 (R1 30 27) fl_P_149 tk_23_27 (hM.at 0 rfl) rfl rfl (xr_o hQ7 (by decide)) d_P_follows_215 ?_
                              refine x_iconst d_P_follows_218 ?_
                              refine x_iadd d_P_follows_219 ?_
                              refine x_puti 30 27 27 fp_P_149 tk_23_27 (hM.at 0 rfl) rfl rfl d_P_follows_220 (fun Q8 hQ8 => ?_)
                              refine x_aload_n d_P_follows_223 0 rfl rfl ?_
                              refine x_iload d_P_follows_224 rfl ?_
                              refine x_bipush d_P_follows_226 rfl ?_
                              refine x_icmp_lt (tgt := 240) d_P_follows_228 rfl (by omega) (by omega) (fun c228 => ?_) (fun c228 => ?_)
                              · omega
                              · refine x_aload_n d_P_follows_231 0 rfl rfl ?_
                                refine x_geti 30 28 28 (R1 30 28) fl_P_152 tk_23_28 (hM.at 0 rfl) rfl rfl ((xr_d hQ8 (by decide)).trans (xr_o hQ7 (by decide))) d_P_follows_232 ?_
                                refine x_iconst d_P_follows_235 ?_
                                refine x_iadd d_P_follows_236 ?_
                                refine x_goto (tgt := 244) d_P_follows_237 rfl ?_
                                refine x_puti 30 28 28 fp_P_152 tk_23_28 (hM.at 0 rfl) rfl rfl d_P_follows_244 (fun Q9 hQ9 => ?_)
                                refine x_iinc d_P_follows_247 rfl [some (.ref ((σ 30).1)), some (vi many), some (vi (sum + 0)), some (vi (passes + 1)), some (vi (k + 1)), some (vi c)] rfl rfl (lr rfl) ?_
                                refine x_goto (tgt := 55) d_P_follows_250 rfl ?_
                                refine V.forget 5 [some (.ref ((σ 30).1)), some (vi many), some (vi (sum + 0)), some (vi (passes + 1)), some (vi (k + 1)), none] rfl ?_
                                exact ih _ (by omega) (k + 1) (sum + 0) (passes + 1) (c :: sk) Q9 rfl (by rw [List.length_cons]; omega) (by omega) ⟨pre2, hpc⟩ (hfo.pass hok (by omega) hQ7 hQ8 hQ9)
                            · omega
                      · have hrl : R1 30 28 < R 30 15 := by omega
                        have hwd := he.2.1 (R1 30 28) (by omega) hrl
                        have hwd2 : 0 ≤ R 48 (R1 30 28) ∧ R 48 (R1 30 28) < 6 := hwd
                        have htc := he.2.2.2.1 (R 48 (R1 30 28)) hwd2.1 hwd2.2
                        have htc2 : 1 ≤ R 52 (R 48 (R1 30 28)) ∧ R 52 (R 48 (R1 30 28)) ≤ 3 := htc
                        refine x_aload_n d_P_follows_141 0 rfl rfl ?_
                        refine x_getc 30 21 52 52 fl_P_54 tk_23_21 (hM.at 0 rfl) rfl rfl d_P_follows_142 ?_
                        refine x_aload_n d_P_follows_145 0 rfl rfl ?_
                        refine x_getc 30 17 48 48 fl_P_42 tk_23_17 (hM.at 0 rfl) rfl rfl d_P_follows_146 ?_
                        refine x_aload_n d_P_follows_149 0 rfl rfl ?_
                        refine x_geti 30 28 28 (R1 30 28) fl_P_152 tk_23_28 (hM.at 0 rfl) rfl rfl rfl d_P_follows_150 ?_
                        refine x_iald 48 (R 48 (R1 30 28)) (hM.at 11 rfl) rfl ⟨by decide, rfl, by decide⟩ rfl (by omega) (hfo.1 48 _ (by decide) (by omega)) d_P_follows_153 ?_
                        refine x_iald 52 (R 52 (R 48 (R1 30 28))) (hM.at 15 rfl) rfl ⟨by decide, rfl, by decide⟩ rfl (by omega) (hfo.1 52 _ (by decide) (by omega)) d_P_follows_154 ?_
                        refine x_goto (tgt := 159) d_P_follows_155 rfl ?_
                        refine x_iadd d_P_follows_159 ?_
                        refine x_istore_n d_P_follows_160 2 rfl [some (.ref ((σ 30).1)), some (vi many), some (vi (sum + (R 52 (R 48 (R1 30 28))))), some (vi passes), some (vi k), some (vi c)] rfl rfl (lr rfl) ?_
                        refine x_iload d_P_follows_161 rfl ?_
                        refine x_bipush d_P_follows_163 rfl ?_
                        refine x_icmp_ne (tgt := 174) d_P_follows_165 rfl (by omega) (by omega) (fun c165 => ?_) (fun c165 => ?_)
                        · refine x_iload_n d_P_follows_174 3 rfl rfl ?_
                          refine x_istore_n d_P_follows_175 3 rfl [some (.ref ((σ 30).1)), some (vi many), some (vi (sum + (R 52 (R 48 (R1 30 28))))), some (vi passes), some (vi k), some (vi c)] rfl rfl (lr rfl) ?_
                          refine x_iload d_P_follows_176 rfl ?_
                          refine x_bipush d_P_follows_178 rfl ?_
                          refine x_icmp_eq (tgt := 223) d_P_follows_180 rfl (by omega) (by omega) (fun c180 => ?_) (fun c180 => ?_)
                          · refine x_aload_n d_P_follows_223 0 rfl rfl ?_
                            refine x_iload d_P_follows_224 rfl ?_
                            refine x_bipush d_P_follows_226 rfl ?_
                            refine x_icmp_lt (tgt := 240) d_P_follows_228 rfl (by omega) (by omega) (fun c228 => ?_) (fun c228 => ?_)
                            · omega
                            · refine x_aload_n d_P_follows_231 0 rfl rfl ?_
                              refine x_geti 30 28 28 (R1 30 28) fl_P_152 tk_23_28 (hM.at 0 rfl) rfl rfl rfl d_P_follows_232 ?_
                              refine x_iconst d_P_follows_235 ?_
                              refine x_iadd d_P_follows_236 ?_
                              refine x_goto (tgt := 244) d_P_follows_237 rfl ?_
                              refine x_puti 30 28 28 fp_P_152 tk_23_28 (hM.at 0 rfl) rfl rfl d_P_follows_244 (fun Q10 hQ10 => ?_)
                              refine x_iinc d_P_follows_247 rfl [some (.ref ((σ 30).1)), some (vi many), some (vi (sum + (R 52 (R 48 (R1 30 28))))), some (vi passes), some (vi (k + 1)), some (vi c)] rfl rfl (lr rfl) ?_
                              refine x_goto (tgt := 55) d_P_follows_250 rfl ?_
                              refine V.forget 5 [some (.ref ((σ 30).1)), some (vi many), some (vi (sum + (R 52 (R 48 (R1 30 28))))), some (vi passes), some (vi (k + 1)), none] rfl ?_
                              have hc6 : c = 6 := by omega
                              have hnew : mFo R Q10 (c :: sk) (sum + (R 52 (R 48 (R1 30 28)))) passes := by
                                rw [hc6] at hok ⊢
                                exact hfo.take hok hQ10
                              exact ih _ (by omega) (k + 1) (sum + (R 52 (R 48 (R1 30 28)))) passes (c :: sk) Q10 rfl (by rw [List.length_cons]; omega) (by omega) ⟨pre2, hpc⟩ (hnew)
                          · omega
                        · omega
                    · omega
                  · omega
        exact hl2 _ 0 0 0 [] R1 rfl rfl (by omega) ⟨st, by rw [List.append_nil]⟩ ⟨hkp, trivial, rfl, rfl, h27, h28, fun j a b => hcp j a (by have : j < R 30 16 := b; omega)⟩
      · refine x_aload_n d_P_follows_32 0 rfl rfl ?_
        refine x_getc 30 18 49 49 fl_P_45 tk_23_18 (hM.at 0 rfl) rfl rfl d_P_follows_33 ?_
        refine x_iload d_P_follows_36 rfl ?_
        refine x_aload_n d_P_follows_38 0 rfl rfl ?_
        refine x_getc 30 17 48 48 fl_P_42 tk_23_17 (hM.at 0 rfl) rfl rfl d_P_follows_39 ?_
        refine x_iload d_P_follows_42 rfl ?_
        refine x_iald 48 (R 48 k) (hM.at 11 rfl) rfl ⟨by decide, rfl, by decide⟩ rfl (by omega) (hkp 48 k (by decide) (by omega)) d_P_follows_44 ?_
        refine x_iast 49 (hM.at 12 rfl) rfl ⟨by decide, rfl, by decide⟩ rfl (by omega) d_P_follows_45 (fun Q1 hQ1 => ?_)
        refine x_iinc d_P_follows_46 rfl [some (.ref ((σ 30).1)), some (vi many), some (vi 0), some (vi 0), some (vi (k + 1)), none] rfl rfl (lr rfl) ?_
        refine x_goto (tgt := 23) d_P_follows_49 rfl ?_
        exact ih _ (by omega) (k + 1) Q1 rfl (by omega) (fun p q a b => (xr_o hQ1 a).trans (hkp p q a b)) (by rw [xr_o hQ1 (by decide)]; exact h27) (by rw [xr_o hQ1 (by decide)]; exact h28) (fun j a b => by
          by_cases e : j = k
          · rw [e, xr_s hQ1]
          · rw [xr_d hQ1 e]; exact hcp j a (by omega))
  refine x_aload_n d_P_follows_0 0 rfl rfl ?_
  refine x_aload_n d_P_follows_1 0 rfl rfl ?_
  refine x_geti 30 16 16 (R 30 16) fl_P_146 tk_23_16 (hM.at 0 rfl) rfl rfl rfl d_P_follows_2 ?_
  refine x_puti 30 27 27 fp_P_149 tk_23_27 (hM.at 0 rfl) rfl rfl d_P_follows_5 (fun Q1 hQ1 => ?_)
  refine x_aload_n d_P_follows_8 0 rfl rfl ?_
  refine x_aload_n d_P_follows_9 0 rfl rfl ?_
  refine x_geti 30 16 16 (R 30 16) fl_P_146 tk_23_16 (hM.at 0 rfl) rfl rfl (xr_d hQ1 (by decide)) d_P_follows_10 ?_
  refine x_puti 30 28 28 fp_P_152 tk_23_28 (hM.at 0 rfl) rfl rfl d_P_follows_13 (fun Q2 hQ2 => ?_)
  refine x_iconst d_P_follows_16 ?_
  refine x_istore_n d_P_follows_17 2 rfl [some (.ref ((σ 30).1)), some (vi many), some (vi 0), none, none, none] rfl rfl (lr rfl) ?_
  refine x_iconst d_P_follows_18 ?_
  refine x_istore_n d_P_follows_19 3 rfl [some (.ref ((σ 30).1)), some (vi many), some (vi 0), some (vi 0), none, none] rfl rfl (lr rfl) ?_
  refine x_iconst d_P_follows_20 ?_
  refine x_istore d_P_follows_21 [some (.ref ((σ 30).1)), some (vi many), some (vi 0), some (vi 0), some (vi 0), none] rfl rfl (lr rfl) ?_
  exact hl1 _ 0 Q2 rfl (by omega) (fun p q a b => (xr_up hQ2 (by omega)).trans (xr_up hQ1 (by omega))) ((xr_d hQ2 (by decide)).trans (xr_s hQ1)) (xr_s hQ2) (fun j a b => by omega)
set_option maxHeartbeats 4000000 in
set_option maxRecDepth 100000 in
theorem c_P_note {σ : xS} {R : xR} (hM : xsh σ mshape) {a : auT} (hco : mCo R a) (h7 : ∀ i, 0 ≤ i → i < 2310 → s7 (R 44 i)) (he : enOk (mEnv R)) (st : List Int) (hrow : mRow R st) (hst : stOk st) (hv : ndV (mEnv R) st) (hs3 : (ndP (mEnv R) st).2.2.1 ≤ 3) (many guard : Int) (hmany : many = (st.length : Int)) (hm7 : st.length ≤ 7) (hgd : 0 ≤ guard ∧ guard ≤ 3) (h27 : R 30 27 = (ndP (mEnv R) st).1) (h28 : R 30 28 = (ndP (mEnv R) st).2.1) (h49 : ∀ j, 0 ≤ j → j < (ndP (mEnv R) st).1 → R 49 j = (ndP (mEnv R) st).2.2.2.2 j) (D : List (List Int × Int)) (hD : mFd R D) (hDl : D.length ≤ 100000000) : Ct m_P_note 3 0 0 [.ref (σ 30).1, vi many, vi guard] σ R (Zv σ (fun R1 => (∀ p q, p ≠ 49 → p ≠ 50 → p ≠ 55 → p ≠ 56 → ¬ (p = 30 ∧ q = 22) → R1 p q = R p q) ∧ mFd R1 (D ++ jd (gM R) a (mEnv R) guard st))) := by
  refine Ct.of [some (.ref ((σ 30).1)), some (vi many), some (vi guard), none, none, none] rfl (by decide +kernel) (lr rfl) (fun X => ?_)
  have hthis := thisM hM
  have he1 : 0 ≤ R 30 15 ∧ R 30 15 ≤ 16 := he.1
  have hrng := ndV.rng he hst hv
  have htx := ndT_ok he hst hv hs3
  have hN0 : ndN (mEnv R) st = (ndP (mEnv R) st).1 + (R 30 15 - (ndP (mEnv R) st).2.1) := rfl
  have hr15 : (ndP (mEnv R) st).2.1 ≤ R 30 15 := hrng.2.2.1.2
  have hw := hco.w
  have ho := hco.o
  have hc := hco.c
  have hl : ∀ (m : Nat) (n : Int) (k : Int) (R1 : xR), (16 - k).toNat = m → ((ndP (mEnv R) st).2.1 ≤ k ∧ k ≤ R 30 15) → (n = (ndP (mEnv R) st).1 + (k - (ndP (mEnv R) st).2.1)) → (∀ p q, p ≠ 49 → R1 p q = R p q) → (∀ j, 0 ≤ j → j < n → R1 49 j = ndT (mEnv R) st j) → V X m_P_note (3, 0, 0, Zv σ (fun R1 => (∀ p q, p ≠ 49 → p ≠ 50 → p ≠ 55 → p ≠ 56 → ¬ (p = 30 ∧ q = 22) → R1 p q = R p q) ∧ mFd R1 (D ++ jd (gM R) a (mEnv R) guard st))) σ R1 0 0 11 [some (.ref ((σ 30).1)), some (vi many), some (vi guard), some (vi n), some (vi k), none] [] := by
    intro m
    induction m using Nat.strongRecOn with
    | _ m ih =>
      intro n k R1 hm hk1 hn1 hk9 hcp
      refine x_iload d_P_note_11 rfl ?_
      refine x_aload_n d_P_note_13 0 rfl rfl ?_
      refine x_geti 30 15 15 (R 30 15) fl_P_135 tk_23_15 (hM.at 0 rfl) rfl rfl (hk9 30 15 (by decide)) d_P_note_14 ?_
      refine x_icmp_ge (tgt := 42) d_P_note_17 rfl (by omega) (by omega) (fun c17 => ?_) (fun c17 => ?_)
      · refine x_aload_n d_P_note_42 0 rfl rfl ?_
        refine x_iload_n d_P_note_43 3 rfl rfl ?_
        refine x_iconst d_P_note_44 ?_
        have hco1 : mCo R1 a := mCo.kept hco hk9
        have enN : ndN (mEnv R) st = n := by omega
        refine x_cvm 30 (As := [vi n, vi 1]) (c_P_wrongAt (R := R1) hM hco1 (fun i a b => by rw [hk9 44 i (by decide)]; exact h7 i a b) n 1 (by omega) (Or.inr rfl) (fun j q1 q2 => by rw [hcp j q1 (by omega)]; exact htx.2 j q1 (by omega))) cs_P_138 hthis rfl rfl (lr rfl) d_P_note_45 (lr rfl) ⟨lr rfl, lr rfl⟩ (fun z1 Q2 hQ2 => ?_)
        obtain ⟨hq1, z0, hq2, hq3⟩ := hQ2
        rw [if_neg (by decide)] at hq3
        subst hq3
        have eg1 : gM R1 = gM R := gM49 hk9
        rw [eg1] at hq2
        have hpz : pz (gM R) a (ndT (mEnv R) st) (ndN (mEnv R) st) = z1 := pz_eq hw ho hc htx.2 (pR.congr (fun j q1 q2 => hcp j q1 (by omega)) (enN ▸ hq2))
        have hzr := pR.rng (by omega) (fun j q1 q2 => by rw [hcp j q1 (by omega)]; exact htx.2 j q1 (by omega)) hq2
        have hk4 : ∀ p q, p ≠ 49 → p ≠ 50 → Q2 p q = R p q := fun p q a b => (hq1 p q b).trans (hk9 p q a)
        have hD5 : mFd Q2 D := hD.kept (hk4 30 22 (by decide) (by decide)) (fun p q h => hk4 p q (by omega) (by omega))
        generalize Q2 = R4 at hk4 hD5 ⊢
        refine x_istore d_P_note_48 [some (.ref ((σ 30).1)), some (vi many), some (vi guard), some (vi n), some (vi z1), none] rfl rfl (lr rfl) ?_
        refine x_iload d_P_note_50 rfl ?_
        refine x_if_lt (tgt := 67) d_P_note_52 rfl (by omega) (fun c52 => ?_) (fun c52 => ?_)
        · have hjd : jd (gM R) a (mEnv R) guard st = [(st, if pz (gM R) a (ndT (mEnv R) st) (ndN (mEnv R) st) < 0 then (mEnv R).1 - (ndP (mEnv R) st).2.1 else pz (gM R) a (ndT (mEnv R) st) (ndN (mEnv R) st) - (ndP (mEnv R) st).1)] := jd_yes (by rw [hpz]; omega)
          refine x_aload_n d_P_note_67 0 rfl rfl ?_
          refine x_geti 30 22 22 (D.length : Int) fl_P_73 tk_23_22 (hM.at 0 rfl) rfl rfl hD5.1 d_P_note_68 ?_
          refine x_bipush d_P_note_71 rfl ?_
          refine x_icmp_ge (tgt := 154) d_P_note_73 rfl (by omega) (by omega) (fun c73 => ?_) (fun c73 => ?_)
          · refine x_aload_n d_P_note_154 0 rfl rfl ?_
            refine x_dup d_P_note_155 rfl ?_
            refine x_geti 30 22 22 (D.length : Int) fl_P_73 tk_23_22 (hM.at 0 rfl) rfl rfl hD5.1 d_P_note_156 ?_
            refine x_iconst d_P_note_159 ?_
            refine x_iadd d_P_note_160 ?_
            refine x_puti 30 22 22 fp_P_73 tk_23_22 (hM.at 0 rfl) rfl rfl d_P_note_161 (fun Q3 hQ3 => ?_)
            exact x_vret d_P_note_164 rfl (lr rfl) (lr rfl) (⟨rfl, rfl, fun p q a b c d e => (xr_up hQ3 e).trans (hk4 p q a b), by rw [hjd]; exact hD5.cnt (by omega) hQ3⟩)
          · refine x_iconst d_P_note_76 ?_
            refine x_istore d_P_note_77 [some (.ref ((σ 30).1)), some (vi many), some (vi guard), some (vi n), some (vi z1), some (vi 0)] rfl rfl (lr rfl) ?_
            have hlt40 : D.length < 40 := by omega
            have hlk : ∀ (m : Nat) (k : Int) (R5 : xR), (7 - k).toNat = m → (0 ≤ k ∧ k ≤ 7) → (∀ p q, p ≠ 55 → R5 p q = R4 p q) → (∀ i, (i < 7 * (D.length : Int) ∨ 7 * (D.length : Int) + k ≤ i) → R5 55 i = R4 55 i) → (∀ i : Nat, (i : Int) < k → R5 55 (7 * (D.length : Int) + i) = if i < st.length then st.getD (st.length - 1 - i) 0 else -1) → V X m_P_note (3, 0, 0, Zv σ (fun R1 => (∀ p q, p ≠ 49 → p ≠ 50 → p ≠ 55 → p ≠ 56 → ¬ (p = 30 ∧ q = 22) → R1 p q = R p q) ∧ mFd R1 (D ++ jd (gM R) a (mEnv R) guard st))) σ R5 0 0 79 [some (.ref ((σ 30).1)), some (vi many), some (vi guard), some (vi n), some (vi z1), some (vi k)] [] := by
              intro m
              induction m using Nat.strongRecOn with
              | _ m ihk =>
                intro k R5 hmk hk1 hkp2 ho2 hi2
                refine x_iload d_P_note_79 rfl ?_
                refine x_bipush d_P_note_81 rfl ?_
                refine x_icmp_ge (tgt := 124) d_P_note_83 rfl (by omega) (by omega) (fun c83 => ?_) (fun c83 => ?_)
                · have ek7 : k = 7 := by omega
                  refine x_aload_n d_P_note_124 0 rfl rfl ?_
                  refine x_getc 30 25 56 56 fl_P_60 tk_23_25 (hM.at 0 rfl) rfl rfl d_P_note_125 ?_
                  refine x_aload_n d_P_note_128 0 rfl rfl ?_
                  refine x_geti 30 22 22 (D.length : Int) fl_P_73 tk_23_22 (hM.at 0 rfl) rfl rfl ((hkp2 30 22 (by decide)).trans hD5.1) d_P_note_129 ?_
                  refine x_iload d_P_note_132 rfl ?_
                  refine x_if_ge (tgt := 146) d_P_note_134 rfl (by omega) (fun c134 => ?_) (fun c134 => ?_)
                  · refine x_iload d_P_note_146 rfl ?_
                    refine x_aload_n d_P_note_148 0 rfl rfl ?_
                    refine x_geti 30 27 27 (R 30 27) fl_P_149 tk_23_27 (hM.at 0 rfl) rfl rfl ((hkp2 30 27 (by decide)).trans (hk4 30 27 (by decide) (by decide))) d_P_note_149 ?_
                    refine x_isub d_P_note_152 ?_
                    have hrch : (if pz (gM R) a (ndT (mEnv R) st) (ndN (mEnv R) st) < 0 then (mEnv R).1 - (ndP (mEnv R) st).2.1 else pz (gM R) a (ndT (mEnv R) st) (ndN (mEnv R) st) - (ndP (mEnv R) st).1) = z1 - (R 30 27) := by
                      rw [hpz]
                      first | (rw [if_pos (by omega)]; show R 30 15 - _ = _; omega) | (rw [if_neg (by omega)]; omega)
                    refine x_iast 56 (hM.at 17 rfl) rfl ⟨by decide, rfl, by decide⟩ rfl (by omega) d_P_note_153 (fun Q1 hQ1 => ?_)
                    refine x_aload_n d_P_note_154 0 rfl rfl ?_
                    refine x_dup d_P_note_155 rfl ?_
                    refine x_geti 30 22 22 (D.length : Int) fl_P_73 tk_23_22 (hM.at 0 rfl) rfl rfl ((xr_o hQ1 (by decide)).trans ((hkp2 30 22 (by decide)).trans hD5.1)) d_P_note_156 ?_
                    refine x_iconst d_P_note_159 ?_
                    refine x_iadd d_P_note_160 ?_
                    refine x_puti 30 22 22 fp_P_73 tk_23_22 (hM.at 0 rfl) rfl rfl d_P_note_161 (fun Q2 hQ2 => ?_)
                    exact x_vret d_P_note_164 rfl (lr rfl) (lr rfl) (⟨rfl, rfl, fun p q a b c d e => by rw [xr_up hQ2 e, xr_o hQ1 d]; exact (hkp2 p q c).trans (hk4 p q a b), by rw [hjd]; exact hD5.add hlt40 (fun i hi => ho2 i (by omega)) (fun i hi => hi2 i (by omega)) (fun i => hkp2 56 i (by decide)) (by rw [hrch]; exact hQ1) hQ2⟩)
                  · refine x_iload_n d_P_note_137 3 rfl rfl ?_
                    refine x_aload_n d_P_note_138 0 rfl rfl ?_
                    refine x_geti 30 27 27 (R 30 27) fl_P_149 tk_23_27 (hM.at 0 rfl) rfl rfl ((hkp2 30 27 (by decide)).trans (hk4 30 27 (by decide) (by decide))) d_P_note_139 ?_
                    refine x_isub d_P_note_142 ?_
                    refine x_goto (tgt := 153) d_P_note_143 rfl ?_
                    have hrch : (if pz (gM R) a (ndT (mEnv R) st) (ndN (mEnv R) st) < 0 then (mEnv R).1 - (ndP (mEnv R) st).2.1 else pz (gM R) a (ndT (mEnv R) st) (ndN (mEnv R) st) - (ndP (mEnv R) st).1) = n - (R 30 27) := by
                      rw [hpz]
                      first | (rw [if_pos (by omega)]; show R 30 15 - _ = _; omega) | (rw [if_neg (by omega)]; omega)
                    refine x_iast 56 (hM.at 17 rfl) rfl ⟨by decide, rfl, by decide⟩ rfl (by omega) d_P_note_153 (fun Q3 hQ3 => ?_)
                    refine x_aload_n d_P_note_154 0 rfl rfl ?_
                    refine x_dup d_P_note_155 rfl ?_
                    refine x_geti 30 22 22 (D.length : Int) fl_P_73 tk_23_22 (hM.at 0 rfl) rfl rfl ((xr_o hQ3 (by decide)).trans ((hkp2 30 22 (by decide)).trans hD5.1)) d_P_note_156 ?_
                    refine x_iconst d_P_note_159 ?_
                    refine x_iadd d_P_note_160 ?_
                    refine x_puti 30 22 22 fp_P_73 tk_23_22 (hM.at 0 rfl) rfl rfl d_P_note_161 (fun Q4 hQ4 => ?_)
                    exact x_vret d_P_note_164 rfl (lr rfl) (lr rfl) (⟨rfl, rfl, fun p q a b c d e => by rw [xr_up hQ4 e, xr_o hQ3 d]; exact (hkp2 p q c).trans (hk4 p q a b), by rw [hjd]; exact hD5.add hlt40 (fun i hi => ho2 i (by omega)) (fun i hi => hi2 i (by omega)) (fun i => hkp2 56 i (by decide)) (by rw [hrch]; exact hQ3) hQ4⟩)
                · refine x_aload_n d_P_note_86 0 rfl rfl ?_
                  refine x_getc 30 24 55 55 fl_P_57 tk_23_24 (hM.at 0 rfl) rfl rfl d_P_note_87 ?_
                  refine x_bipush d_P_note_90 rfl ?_
                  refine x_aload_n d_P_note_92 0 rfl rfl ?_
                  refine x_geti 30 22 22 (D.length : Int) fl_P_73 tk_23_22 (hM.at 0 rfl) rfl rfl ((hkp2 30 22 (by decide)).trans hD5.1) d_P_note_93 ?_
                  refine x_imul d_P_note_96 ?_
                  refine x_iload d_P_note_97 rfl ?_
                  refine x_iadd d_P_note_99 ?_
                  refine x_iload d_P_note_100 rfl ?_
                  refine x_iload_n d_P_note_102 1 rfl rfl ?_
                  refine x_icmp_ge (tgt := 116) d_P_note_103 rfl (by omega) (by omega) (fun c103 => ?_) (fun c103 => ?_)
                  · refine x_iconst d_P_note_116 ?_
                    refine x_iast 55 (hM.at 16 rfl) rfl ⟨by decide, rfl, by decide⟩ rfl (by omega) d_P_note_117 (fun Q5 hQ5 => ?_)
                    refine x_iinc d_P_note_118 rfl [some (.ref ((σ 30).1)), some (vi many), some (vi guard), some (vi n), some (vi z1), some (vi (k + 1))] rfl rfl (lr rfl) ?_
                    refine x_goto (tgt := 79) d_P_note_121 rfl ?_
                    exact ihk _ (by omega) (k + 1) Q5 rfl (by omega) (fun p q b => (xr_o hQ5 b).trans (hkp2 p q b)) (fun i hi => (xr_d hQ5 (by omega)).trans (ho2 i (by omega))) (fun i hi => by
                      by_cases e : (i : Int) = k
                      · rw [xr_e hQ5 (by omega)]
                        rw [if_neg (by omega)]
                      · rw [xr_d hQ5 (by omega)]; exact hi2 i (by omega))
                  · refine x_aload_n d_P_note_106 0 rfl rfl ?_
                    refine x_getc 30 26 57 57 fl_P_63 tk_23_26 (hM.at 0 rfl) rfl rfl d_P_note_107 ?_
                    refine x_iload d_P_note_110 rfl ?_
                    refine x_iald 57 (R 57 k) (hM.at 18 rfl) rfl ⟨by decide, rfl, by decide⟩ rfl (by omega) ((hkp2 57 k (by decide)).trans (hk4 57 k (by decide) (by decide))) d_P_note_112 ?_
                    refine x_goto (tgt := 117) d_P_note_113 rfl ?_
                    refine x_iast 55 (hM.at 16 rfl) rfl ⟨by decide, rfl, by decide⟩ rfl (by omega) d_P_note_117 (fun Q6 hQ6 => ?_)
                    refine x_iinc d_P_note_118 rfl [some (.ref ((σ 30).1)), some (vi many), some (vi guard), some (vi n), some (vi z1), some (vi (k + 1))] rfl rfl (lr rfl) ?_
                    refine x_goto (tgt := 79) d_P_note_121 rfl ?_
                    exact ihk _ (by omega) (k + 1) Q6 rfl (by omega) (fun p q b => (xr_o hQ6 b).trans (hkp2 p q b)) (fun i hi => (xr_d hQ6 (by omega)).trans (ho2 i (by omega))) (fun i hi => by
                      by_cases e : (i : Int) = k
                      · rw [xr_e hQ6 (by omega)]
                        rw [if_pos (by omega), ← e]; exact hrow.get i (by omega)
                      · rw [xr_d hQ6 (by omega)]; exact hi2 i (by omega))
            exact hlk _ 0 R4 rfl (by omega) (fun _ _ _ => rfl) (fun _ _ => rfl) (fun i hi => by omega)
        · refine x_iload d_P_note_55 rfl ?_
          refine x_aload_n d_P_note_57 0 rfl rfl ?_
          refine x_geti 30 27 27 (R 30 27) fl_P_149 tk_23_27 (hM.at 0 rfl) rfl rfl (hk4 30 27 (by decide) (by decide)) d_P_note_58 ?_
          refine x_iload_n d_P_note_61 2 rfl rfl ?_
          refine x_iadd d_P_note_62 ?_
          refine x_icmp_ge (tgt := 67) d_P_note_63 rfl (by omega) (by omega) (fun c63 => ?_) (fun c63 => ?_)
          · have hjd : jd (gM R) a (mEnv R) guard st = [(st, if pz (gM R) a (ndT (mEnv R) st) (ndN (mEnv R) st) < 0 then (mEnv R).1 - (ndP (mEnv R) st).2.1 else pz (gM R) a (ndT (mEnv R) st) (ndN (mEnv R) st) - (ndP (mEnv R) st).1)] := jd_yes (by rw [hpz]; omega)
            refine x_aload_n d_P_note_67 0 rfl rfl ?_
            refine x_geti 30 22 22 (D.length : Int) fl_P_73 tk_23_22 (hM.at 0 rfl) rfl rfl hD5.1 d_P_note_68 ?_
            refine x_bipush d_P_note_71 rfl ?_
            refine x_icmp_ge (tgt := 154) d_P_note_73 rfl (by omega) (by omega) (fun c73 => ?_) (fun c73 => ?_)
            · refine x_aload_n d_P_note_154 0 rfl rfl ?_
              refine x_dup d_P_note_155 rfl ?_
              refine x_geti 30 22 22 (D.length : Int) fl_P_73 tk_23_22 (hM.at 0 rfl) rfl rfl hD5.1 d_P_note_156 ?_
              refine x_iconst d_P_note_159 ?_
              refine x_iadd d_P_note_160 ?_
              refine x_puti 30 22 22 fp_P_73 tk_23_22 (hM.at 0 rfl) rfl rfl d_P_note_161 (fun Q4 hQ4 => ?_)
              exact x_vret d_P_note_164 rfl (lr rfl) (lr rfl) (⟨rfl, rfl, fun p q a b c d e => (xr_up hQ4 e).trans (hk4 p q a b), by rw [hjd]; exact hD5.cnt (by omega) hQ4⟩)
            · refine x_iconst d_P_note_76 ?_
              refine x_istore d_P_note_77 [some (.ref ((σ 30).1)), some (vi many), some (vi guard), some (vi n), some (vi z1), some (vi 0)] rfl rfl (lr rfl) ?_
              have hlt40 : D.length < 40 := by omega
              have hlk : ∀ (m : Nat) (k : Int) (R5 : xR), (7 - k).toNat = m → (0 ≤ k ∧ k ≤ 7) → (∀ p q, p ≠ 55 → R5 p q = R4 p q) → (∀ i, (i < 7 * (D.length : Int) ∨ 7 * (D.length : Int) + k ≤ i) → R5 55 i = R4 55 i) → (∀ i : Nat, (i : Int) < k → R5 55 (7 * (D.length : Int) + i) = if i < st.length then st.getD (st.length - 1 - i) 0 else -1) → V X m_P_note (3, 0, 0, Zv σ (fun R1 => (∀ p q, p ≠ 49 → p ≠ 50 → p ≠ 55 → p ≠ 56 → ¬ (p = 30 ∧ q = 22) → R1 p q = R p q) ∧ mFd R1 (D ++ jd (gM R) a (mEnv R) guard st))) σ R5 0 0 79 [some (.ref ((σ 30).1)), some (vi many), some (vi guard), some (vi n), some (vi z1), some (vi k)] [] := by
                intro m
                induction m using Nat.strongRecOn with
                | _ m ihk =>
                  intro k R5 hmk hk1 hkp2 ho2 hi2
                  refine x_iload d_P_note_79 rfl ?_
                  refine x_bipush d_P_note_81 rfl ?_
                  refine x_icmp_ge (tgt := 124) d_P_note_83 rfl (by omega) (by omega) (fun c83 => ?_) (fun c83 => ?_)
                  · have ek7 : k = 7 := by omega
                    refine x_aload_n d_P_note_124 0 rfl rfl ?_
                    refine x_getc 30 25 56 56 fl_P_60 tk_23_25 (hM.at 0 rfl) rfl rfl d_P_note_125 ?_
                    refine x_aload_n d_P_note_128 0 rfl rfl ?_
                    refine x_geti 30 22 22 (D.length : Int) fl_P_73 tk_23_22 (hM.at 0 rfl) rfl rfl ((hkp2 30 22 (by decide)).trans hD5.1) d_P_note_129 ?_
                    refine x_iload d_P_note_132 rfl ?_
                    refine x_if_ge (tgt := 146) d_P_note_134 rfl (by omega) (fun c134 => ?_) (fun c134 => ?_)
                    · refine x_iload d_P_note_146 rfl ?_
                      refine x_aload_n d_P_note_148 0 rfl rfl ?_
                      refine x_geti 30 27 27 (R 30 27) fl_P_149 tk_23_27 (hM.at 0 rfl) rfl rfl ((hkp2 30 27 (by decide)).trans (hk4 30 27 (by decide) (by decide))) d_P_note_149 ?_
                      refine x_isub d_P_note_152 ?_
                      have hrch : (if pz (gM R) a (ndT (mEnv R) st) (ndN (mEnv R) st) < 0 then (mEnv R).1 - (ndP (mEnv R) st).2.1 else pz (gM R) a (ndT (mEnv R) st) (ndN (mEnv R) st) - (ndP (mEnv R) st).1) = z1 - (R 30 27) := by
                        rw [hpz]
                        first | (rw [if_pos (by omega)]; show R 30 15 - _ = _; omega) | (rw [if_neg (by omega)]; omega)
                      refine x_iast 56 (hM.at 17 rfl) rfl ⟨by decide, rfl, by decide⟩ rfl (by omega) d_P_note_153 (fun Q1 hQ1 => ?_)
                      refine x_aload_n d_P_note_154 0 rfl rfl ?_
                      refine x_dup d_P_note_155 rfl ?_
                      refine x_geti 30 22 22 (D.length : Int) fl_P_73 tk_23_22 (hM.at 0 rfl) rfl rfl ((xr_o hQ1 (by decide)).trans ((hkp2 30 22 (by decide)).trans hD5.1)) d_P_note_156 ?_
                      refine x_iconst d_P_note_159 ?_
                      refine x_iadd d_P_note_160 ?_
                      refine x_puti 30 22 22 fp_P_73 tk_23_22 (hM.at 0 rfl) rfl rfl d_P_note_161 (fun Q2 hQ2 => ?_)
                      exact x_vret d_P_note_164 rfl (lr rfl) (lr rfl) (⟨rfl, rfl, fun p q a b c d e => by rw [xr_up hQ2 e, xr_o hQ1 d]; exact (hkp2 p q c).trans (hk4 p q a b), by rw [hjd]; exact hD5.add hlt40 (fun i hi => ho2 i (by omega)) (fun i hi => hi2 i (by omega)) (fun i => hkp2 56 i (by decide)) (by rw [hrch]; exact hQ1) hQ2⟩)
                    · refine x_iload_n d_P_note_137 3 rfl rfl ?_
                      refine x_aload_n d_P_note_138 0 rfl rfl ?_
                      refine x_geti 30 27 27 (R 30 27) fl_P_149 tk_23_27 (hM.at 0 rfl) rfl rfl ((hkp2 30 27 (by decide)).trans (hk4 30 27 (by decide) (by decide))) d_P_note_139 ?_
                      refine x_isub d_P_note_142 ?_
                      refine x_goto (tgt := 153) d_P_note_143 rfl ?_
                      have hrch : (if pz (gM R) a (ndT (mEnv R) st) (ndN (mEnv R) st) < 0 then (mEnv R).1 - (ndP (mEnv R) st).2.1 else pz (gM R) a (ndT (mEnv R) st) (ndN (mEnv R) st) - (ndP (mEnv R) st).1) = n - (R 30 27) := by
                        rw [hpz]
                        first | (rw [if_pos (by omega)]; show R 30 15 - _ = _; omega) | (rw [if_neg (by omega)]; omega)
                      refine x_iast 56 (hM.at 17 rfl) rfl ⟨by decide, rfl, by decide⟩ rfl (by omega) d_P_note_153 (fun Q3 hQ3 => ?_)
                      refine x_aload_n d_P_note_154 0 rfl rfl ?_
                      refine x_dup d_P_note_155 rfl ?_
                      refine x_geti 30 22 22 (D.length : Int) fl_P_73 tk_23_22 (hM.at 0 rfl) rfl rfl ((xr_o hQ3 (by decide)).trans ((hkp2 30 22 (by decide)).trans hD5.1)) d_P_note_156 ?_
                      refine x_iconst d_P_note_159 ?_
                      refine x_iadd d_P_note_160 ?_
                      refine x_puti 30 22 22 fp_P_73 tk_23_22 (hM.at 0 rfl) rfl rfl d_P_note_161 (fun Q4 hQ4 => ?_)
                      exact x_vret d_P_note_164 rfl (lr rfl) (lr rfl) (⟨rfl, rfl, fun p q a b c d e => by rw [xr_up hQ4 e, xr_o hQ3 d]; exact (hkp2 p q c).trans (hk4 p q a b), by rw [hjd]; exact hD5.add hlt40 (fun i hi => ho2 i (by omega)) (fun i hi => hi2 i (by omega)) (fun i => hkp2 56 i (by decide)) (by rw [hrch]; exact hQ3) hQ4⟩)
                  · refine x_aload_n d_P_note_86 0 rfl rfl ?_
                    refine x_getc 30 24 55 55 fl_P_57 tk_23_24 (hM.at 0 rfl) rfl rfl d_P_note_87 ?_
                    refine x_bipush d_P_note_90 rfl ?_
                    refine x_aload_n d_P_note_92 0 rfl rfl ?_
                    refine x_geti 30 22 22 (D.length : Int) fl_P_73 tk_23_22 (hM.at 0 rfl) rfl rfl ((hkp2 30 22 (by decide)).trans hD5.1) d_P_note_93 ?_
                    refine x_imul d_P_note_96 ?_
                    refine x_iload d_P_note_97 rfl ?_
                    refine x_iadd d_P_note_99 ?_
                    refine x_iload d_P_note_100 rfl ?_
                    refine x_iload_n d_P_note_102 1 rfl rfl ?_
                    refine x_icmp_ge (tgt := 116) d_P_note_103 rfl (by omega) (by omega) (fun c103 => ?_) (fun c103 => ?_)
                    · refine x_iconst d_P_note_116 ?_
                      refine x_iast 55 (hM.at 16 rfl) rfl ⟨by decide, rfl, by decide⟩ rfl (by omega) d_P_note_117 (fun Q5 hQ5 => ?_)
                      refine x_iinc d_P_note_118 rfl [some (.ref ((σ 30).1)), some (vi many), some (vi guard), some (vi n), some (vi z1), some (vi (k + 1))] rfl rfl (lr rfl) ?_
                      refine x_goto (tgt := 79) d_P_note_121 rfl ?_
                      exact ihk _ (by omega) (k + 1) Q5 rfl (by omega) (fun p q b => (xr_o hQ5 b).trans (hkp2 p q b)) (fun i hi => (xr_d hQ5 (by omega)).trans (ho2 i (by omega))) (fun i hi => by
                        by_cases e : (i : Int) = k
                        · rw [xr_e hQ5 (by omega)]
                          rw [if_neg (by omega)]
                        · rw [xr_d hQ5 (by omega)]; exact hi2 i (by omega))
                    · refine x_aload_n d_P_note_106 0 rfl rfl ?_
                      refine x_getc 30 26 57 57 fl_P_63 tk_23_26 (hM.at 0 rfl) rfl rfl d_P_note_107 ?_
                      refine x_iload d_P_note_110 rfl ?_
                      refine x_iald 57 (R 57 k) (hM.at 18 rfl) rfl ⟨by decide, rfl, by decide⟩ rfl (by omega) ((hkp2 57 k (by decide)).trans (hk4 57 k (by decide) (by decide))) d_P_note_112 ?_
                      refine x_goto (tgt := 117) d_P_note_113 rfl ?_
                      refine x_iast 55 (hM.at 16 rfl) rfl ⟨by decide, rfl, by decide⟩ rfl (by omega) d_P_note_117 (fun Q6 hQ6 => ?_)
                      refine x_iinc d_P_note_118 rfl [some (.ref ((σ 30).1)), some (vi many), some (vi guard), some (vi n), some (vi z1), some (vi (k + 1))] rfl rfl (lr rfl) ?_
                      refine x_goto (tgt := 79) d_P_note_121 rfl ?_
                      exact ihk _ (by omega) (k + 1) Q6 rfl (by omega) (fun p q b => (xr_o hQ6 b).trans (hkp2 p q b)) (fun i hi => (xr_d hQ6 (by omega)).trans (ho2 i (by omega))) (fun i hi => by
                        by_cases e : (i : Int) = k
                        · rw [xr_e hQ6 (by omega)]
                          rw [if_pos (by omega), ← e]; exact hrow.get i (by omega)
                        · rw [xr_d hQ6 (by omega)]; exact hi2 i (by omega))
              exact hlk _ 0 R4 rfl (by omega) (fun _ _ _ => rfl) (fun _ _ => rfl) (fun i hi => by omega)
          · exact x_vret d_P_note_66 rfl (lr rfl) (lr rfl) (⟨rfl, rfl, fun p q a b c d e => hk4 p q a b, by rw [jd_no (by rw [hpz]; omega), List.append_nil]; exact hD5⟩)
      · refine x_aload_n d_P_note_20 0 rfl rfl ?_
        refine x_getc 30 18 49 49 fl_P_45 tk_23_18 (hM.at 0 rfl) rfl rfl d_P_note_21 ?_
        refine x_iload_n d_P_note_24 3 rfl rfl ?_
        refine x_aload_n d_P_note_25 0 rfl rfl ?_
        refine x_getc 30 17 48 48 fl_P_42 tk_23_17 (hM.at 0 rfl) rfl rfl d_P_note_26 ?_
        refine x_iload d_P_note_29 rfl ?_
        refine x_iald 48 (R 48 k) (hM.at 11 rfl) rfl ⟨by decide, rfl, by decide⟩ rfl (by omega) (hk9 48 k (by decide)) d_P_note_31 ?_
        refine x_iast 49 (hM.at 12 rfl) rfl ⟨by decide, rfl, by decide⟩ rfl (by omega) d_P_note_32 (fun Q5 hQ5 => ?_)
        refine x_iinc d_P_note_33 rfl [some (.ref ((σ 30).1)), some (vi many), some (vi guard), some (vi (n + 1)), some (vi k), none] rfl rfl (lr rfl) ?_
        refine x_iinc d_P_note_36 rfl [some (.ref ((σ 30).1)), some (vi many), some (vi guard), some (vi (n + 1)), some (vi (k + 1)), none] rfl rfl (lr rfl) ?_
        refine x_goto (tgt := 11) d_P_note_39 rfl ?_
        exact ih _ (by omega) (n + 1) (k + 1) Q5 rfl (by omega) (by omega) (fun p q c => (xr_o hQ5 c).trans (hk9 p q c)) (fun j a b => by
          by_cases e : j = n
          · rw [e, xr_s hQ5]
            unfold ndT
            rw [if_neg (by omega)]
            show R 48 k = R 48 _
            congr 1
            omega
          · rw [xr_d hQ5 e]; exact hcp j a (by omega))
  refine x_aload_n d_P_note_0 0 rfl rfl ?_
  refine x_geti 30 27 27 (R 30 27) fl_P_149 tk_23_27 (hM.at 0 rfl) rfl rfl rfl d_P_note_1 ?_
  refine x_istore_n d_P_note_4 3 rfl [some (.ref ((σ 30).1)), some (vi many), some (vi guard), some (vi (R 30 27)), none, none] rfl rfl (lr rfl) ?_
  refine x_aload_n d_P_note_5 0 rfl rfl ?_
  refine x_geti 30 28 28 (R 30 28) fl_P_152 tk_23_28 (hM.at 0 rfl) rfl rfl rfl d_P_note_6 ?_
  refine x_istore d_P_note_9 [some (.ref ((σ 30).1)), some (vi many), some (vi guard), some (vi (R 30 27)), some (vi (R 30 28)), none] rfl rfl (lr rfl) ?_
  exact hl _ (R 30 27) (R 30 28) R rfl (by omega) (by omega) (fun _ _ _ => rfl) (fun j a b => by unfold ndT; rw [if_pos (by omega)]; exact h49 j a (by omega))
