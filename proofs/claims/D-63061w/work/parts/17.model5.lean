/-! the model: led, isConflict (walks printed by gen/model5.py) -/
def mLdP (R R1 : xR) (N s x z : Int) : Prop := (∀ a b, a ≠ 44 → ¬ (a = 30 ∧ b = 11) → R1 a b = R a b) ∧ (∀ i, i < 55 * N → R1 44 i = R 44 i) ∧ (∀ i, 0 ≤ i → i < 2310 → s7 (R1 44 i)) ∧
  (((¬ ∃ r p t, gGo (gM R) (mIt R s) x r p t) ∧ z = -1 ∧ R1 30 11 = N) ∨
   ((∃ r p t, gGo (gM R) (mIt R s) x r p t) ∧ (0 ≤ z ∧ z < N) ∧ mIt R z = gCl (gM R) (gGo (gM R) (mIt R s) x) ∧ R1 30 11 = N) ∨
   ((∃ r p t, gGo (gM R) (mIt R s) x r p t) ∧ (∀ q, 0 ≤ q → q < N → mIt R q ≠ gCl (gM R) (gGo (gM R) (mIt R s) x)) ∧ z = N ∧ R1 30 11 = N + 1 ∧ mIt R1 N = gCl (gM R) (gGo (gM R) (mIt R s) x)))
theorem mIt_of {R R1 : xR} {q N : Int} (h : ∀ i, i < 55 * N → R1 44 i = R 44 i) (hq : 0 ≤ q ∧ q < N) : mIt R1 q = mIt R q := by
  funext r p t
  unfold mIt
  apply propext
  constructor
  · rintro ⟨a, b, c, d⟩
    exact ⟨a, b, c, by rw [← h _ (by omega)]; exact d⟩
  · rintro ⟨a, b, c, d⟩
    exact ⟨a, b, c, by rw [h _ (by omega)]; exact d⟩
/-- block N emptied before k -/
def mC0 (R R1 : xR) (N k : Int) : Prop := (∀ a b, a ≠ 44 → R1 a b = R a b) ∧ (∀ i, (i < 55 * N ∨ 55 * N + k ≤ i) → R1 44 i = R 44 i) ∧ ∀ i, 0 ≤ i → i < k → R1 44 (55 * N + i) = 0
theorem mC0.step {R R1 R2 : xR} {N k : Int} (h : mC0 R R1 N k) (hk : 0 ≤ k) (e : R2 = xup R1 44 (55 * N + k) 0) : mC0 R R2 N (k + 1) := by
  refine ⟨fun a b hab => (xr_o e hab).trans (h.1 a b hab), fun i hi => (xr_d e (by omega)).trans (h.2.1 i (by omega)), fun i a b => ?_⟩
  by_cases c : i = k
  · rw [c, xr_s e]
  · rw [xr_d e (by omega)]; exact h.2.2 i a (by omega)
theorem xr_up {R R1 : xR} {k i z a b : Int} (h : R1 = xup R k i z) (hne : ¬ (a = k ∧ b = i)) : R1 a b = R a b := by rw [h]; unfold xup; rw [if_neg hne]
theorem mIt_same {R R1 : xR} {b z q : Int} (h : R1 = xup R 30 b z) : mIt R1 q = mIt R q := by
  unfold mIt
  have e : R1 44 = R 44 := funext (fun i => xr_o h (by decide))
  rw [e]
set_option maxHeartbeats 4000000 in
set_option maxRecDepth 100000 in
theorem c_P_led {σ : xS} {R : xR} (hM : xsh σ mshape) (hg : mGr R) (hp : mPr R) (h7 : ∀ i, 0 ≤ i → i < 2310 → s7 (R 44 i)) (N s x : Int) (hN : R 30 11 = N) (hN1 : 1 ≤ N ∧ N ≤ 40) (hs : 0 ≤ s ∧ s < N) (hx : 0 ≤ x ∧ x < 12) : Ct m_P_led 3 0 0 [.ref (σ 30).1, vi s, vi x] σ R (Zm σ (fun z R1 => mLdP R R1 N s x z)) := by
  refine Ct.of [some (.ref ((σ 30).1)), some (vi s), some (vi x), none, none, none, none] rfl (by decide +kernel) (lr rfl) (fun X => ?_)
  have hthis := thisM hM
  have hl0 : ∀ (m : Nat) (k : Int) (R1 : xR), (55 - k).toNat = m → (0 ≤ k ∧ k ≤ 55) → (mC0 R R1 N k) → V X m_P_led (3, 0, 0, Zm σ (fun z R1 => mLdP R R1 N s x z)) σ R1 0 0 5 [some (.ref ((σ 30).1)), some (vi s), some (vi x), some (vi 0), some (vi k), none, none] [] := by
    intro m
    induction m using Nat.strongRecOn with
    | _ m ih =>
      intro k R1 hm hk1 hc0
      refine x_iload d_P_led_5 rfl ?_
      refine x_bipush d_P_led_7 rfl ?_
      refine x_icmp_ge (tgt := 34) d_P_led_9 rfl (by omega) (by omega) (fun c9 => ?_) (fun c9 => ?_)
      · refine x_iconst d_P_led_34 ?_
        refine x_istore d_P_led_35 [some (.ref ((σ 30).1)), some (vi s), some (vi x), some (vi 0), some (vi 0), none, none] rfl rfl (lr rfl) ?_
        have hlr : ∀ (m : Nat) (r : Int) (some_ : Int) (R2 : xR), (11 - r).toNat = m → (0 ≤ r ∧ r ≤ 11) → (mLd R R2 N s x r 0 some_) → V X m_P_led (3, 0, 0, Zm σ (fun z R1 => mLdP R R1 N s x z)) σ R2 0 0 37 [some (.ref ((σ 30).1)), some (vi s), some (vi x), some (vi some_), some (vi r), none, none] [] := by
          intro m
          induction m using Nat.strongRecOn with
          | _ m ihr =>
            intro r some_ R2 hmr hr1 hld
            refine x_iload d_P_led_37 rfl ?_
            refine x_bipush d_P_led_39 rfl ?_
            refine x_icmp_ge (tgt := 127) d_P_led_41 rfl (by omega) (by omega) (fun c41 => ?_) (fun c41 => ?_)
            · have er : r = 11 := by omega
              have hld2 := hld
              rw [er] at hld2
              have hdn := hld2.done hg hs hN1.2 h7
              have hg2 := hg.moved hld.1
              have hp2 := hp.moved hld.1
              refine x_iload_n d_P_led_127 3 rfl rfl ?_
              refine x_if_ne (tgt := 133) d_P_led_128 rfl (by have := hld.2.2.2.2; have h9 := zc_or (∃ r2 p2, (0 ≤ r2 ∧ r2 ≤ 10) ∧ (0 ≤ p2 ∧ p2 ≤ 3) ∧ (r2 < r ∨ (r2 = r ∧ p2 < 0)) ∧ mTg R s x r2 p2); rw [← this] at h9; omega) (fun c128 => ?_) (fun c128 => ?_)
              · refine x_aload_n d_P_led_133 0 rfl rfl ?_
                refine x_aload_n d_P_led_134 0 rfl rfl ?_
                refine x_geti 30 11 11 N fl_P_115 tk_23_11 (hM.at 0 rfl) rfl rfl ((hld.1 30 11 (by decide)).trans hN) d_P_led_135 ?_
                refine x_cvv 30 (As := [vi N]) (c_P_close (R := R2) hM hg2 hp2 N (by omega) hld.2.2.1) cs_P_118 hthis rfl rfl (lr rfl) d_P_led_138 (lr rfl) ⟨lr rfl, lr rfl⟩ (fun Q1 hQ1 => ?_)
                refine x_iconst d_P_led_141 ?_
                refine x_istore d_P_led_142 [some (.ref ((σ 30).1)), some (vi s), some (vi x), some (vi some_), some (vi 0), none, none] rfl rfl (lr rfl) ?_
                have hR3 := hQ1
                have f1 : ∀ a b, a ≠ 44 → ¬ (a = 30 ∧ b = 11) → Q1 a b = R a b := fun a b c _ => (hR3.1 a b c).trans (hld.1 a b c)
                have f2 : ∀ i, i < 55 * N → Q1 44 i = R 44 i := fun i hi => (hR3.2.1 i (Or.inl hi)).trans (hld.2.1 i hi)
                have f7 := hR3.2.2.1
                have f8 : mIt Q1 N = gCl (gM R) (gGo (gM R) (mIt R s) x) := by rw [hR3.2.2.2, gM_eq hld.1, hdn.1]
                have f30 : Q1 30 11 = N := by rw [hR3.1 30 11 (by decide), hld.1 30 11 (by decide)]; exact hN
                have hgo := hdn.2.mp c128
                generalize Q1 = R3 at f1 f2 f7 f8 f30 ⊢
                have hlq : ∀ (m : Nat) (q : Int), (N - q).toNat = m → (0 ≤ q ∧ q ≤ N) → (∀ q2, 0 ≤ q2 → q2 < q → mIt R q2 ≠ gCl (gM R) (gGo (gM R) (mIt R s) x)) → V X m_P_led (3, 0, 0, Zm σ (fun z R1 => mLdP R R1 N s x z)) σ R3 0 0 144 [some (.ref ((σ 30).1)), some (vi s), some (vi x), some (vi some_), some (vi q), none, none] [] := by
                  intro m
                  induction m using Nat.strongRecOn with
                  | _ m ihq =>
                    intro q hmq hq1 hq2
                    refine x_iload d_P_led_144 rfl ?_
                    refine x_aload_n d_P_led_146 0 rfl rfl ?_
                    refine x_geti 30 11 11 N fl_P_115 tk_23_11 (hM.at 0 rfl) rfl rfl f30 d_P_led_147 ?_
                    refine x_icmp_ge (tgt := 229) d_P_led_150 rfl (by omega) (by omega) (fun c150 => ?_) (fun c150 => ?_)
                    · refine x_aload_n d_P_led_229 0 rfl rfl ?_
                      refine x_dup d_P_led_230 rfl ?_
                      refine x_geti 30 11 11 N fl_P_115 tk_23_11 (hM.at 0 rfl) rfl rfl f30 d_P_led_231 ?_
                      refine x_iconst d_P_led_234 ?_
                      refine x_iadd d_P_led_235 ?_
                      refine x_puti 30 11 11 fp_P_115 tk_23_11 (hM.at 0 rfl) rfl rfl d_P_led_236 (fun Q1 hQ1 => ?_)
                      refine x_aload_n d_P_led_239 0 rfl rfl ?_
                      refine x_geti 30 11 11 (N + 1) fl_P_115 tk_23_11 (hM.at 0 rfl) rfl rfl (xr_s hQ1) d_P_led_240 ?_
                      refine x_iconst d_P_led_243 ?_
                      refine x_isub d_P_led_244 ?_
                      exact x_iret d_P_led_245 rfl (lr rfl) (lr rfl) (⟨_, rfl, rfl, fun a b c d => (xr_up hQ1 d).trans (f1 a b c d), fun i hi => (xr_o hQ1 (by decide)).trans (f2 i hi), fun i a b => by rw [xr_o hQ1 (by decide)]; exact f7 i a b, Or.inr (Or.inr ⟨hgo, fun q2 a b => hq2 q2 a (by omega), by omega, xr_s hQ1, by rw [mIt_same hQ1]; exact f8⟩)⟩)
                    · refine x_iconst d_P_led_153 ?_
                      refine x_istore d_P_led_154 [some (.ref ((σ 30).1)), some (vi s), some (vi x), some (vi some_), some (vi q), some (vi 1), none] rfl rfl (lr rfl) ?_
                      refine x_iconst d_P_led_156 ?_
                      refine x_istore d_P_led_157 [some (.ref ((σ 30).1)), some (vi s), some (vi x), some (vi some_), some (vi q), some (vi 1), some (vi 0)] rfl rfl (lr rfl) ?_
                      have hlk : ∀ (m : Nat) (k : Int) (same : Int), (55 - k).toNat = m → (0 ≤ k ∧ k ≤ 55) → (same = zc (∀ j, 0 ≤ j → j < k → R3 44 (55 * q + j) = R3 44 (55 * N + j))) → V X m_P_led (3, 0, 0, Zm σ (fun z R1 => mLdP R R1 N s x z)) σ R3 0 0 159 [some (.ref ((σ 30).1)), some (vi s), some (vi x), some (vi some_), some (vi q), some (vi same), some (vi k)] [] := by
                        intro m
                        induction m using Nat.strongRecOn with
                        | _ m ihk =>
                          intro k same hmk hk1 hsm
                          refine x_iload d_P_led_159 rfl ?_
                          refine x_bipush d_P_led_161 rfl ?_
                          refine x_icmp_ge (tgt := 215) d_P_led_163 rfl (by omega) (by omega) (fun c163 => ?_) (fun c163 => ?_)
                          · refine x_iload d_P_led_215 rfl ?_
                            refine x_if_eq (tgt := 223) d_P_led_217 rfl (by have := zc_or (∀ j, 0 ≤ j → j < k → R3 44 (55 * q + j) = R3 44 (55 * N + j)); rw [← hsm] at this; omega) (fun c217 => ?_) (fun c217 => ?_)
                            · refine x_iinc d_P_led_223 rfl [some (.ref ((σ 30).1)), some (vi s), some (vi x), some (vi some_), some (vi (q + 1)), some (vi same), some (vi k)] rfl rfl (lr rfl) ?_
                              refine x_goto (tgt := 144) d_P_led_226 rfl ?_
                              refine V.forget 5 [some (.ref ((σ 30).1)), some (vi s), some (vi x), some (vi some_), some (vi (q + 1)), none, some (vi k)] rfl ?_
                              refine V.forget 6 [some (.ref ((σ 30).1)), some (vi s), some (vi x), some (vi some_), some (vi (q + 1)), none, none] rfl ?_
                              exact ihq _ (by omega) (q + 1) rfl (by omega) (fun q2 a b => by
                                by_cases e : q2 = q
                                · rw [e]; intro e2
                                  have e3 := (mIt_ext (q := q) (N := N) (by omega) (by omega) f7).mpr (by rw [f8, mIt_of f2 (by omega)]; exact e2)
                                  exact zc_eq0.mp (hsm ▸ c217) (fun j a b => e3 j a (by omega))
                                · exact hq2 q2 a (by omega))
                            · refine x_iload d_P_led_220 rfl ?_
                              exact x_iret d_P_led_222 rfl (lr rfl) (lr rfl) (⟨_, rfl, rfl, f1, f2, f7, Or.inr (Or.inl ⟨hgo, ⟨by omega, by omega⟩, by first | (rw [← mIt_of f2 (by omega), ← f8]; exact (mIt_ext (by omega) (by omega) f7).mp (fun j a b => (zc_ne.mp (show zc (∀ j, 0 ≤ j → j < k → R3 44 (55 * q + j) = R3 44 (55 * N + j)) ≠ 0 from hsm ▸ c217)) j a (by omega))) | exact absurd c168 c217, f30⟩)⟩)
                          · refine x_iload d_P_led_166 rfl ?_
                            refine x_if_eq (tgt := 215) d_P_led_168 rfl (by have := zc_or (∀ j, 0 ≤ j → j < k → R3 44 (55 * q + j) = R3 44 (55 * N + j)); rw [← hsm] at this; omega) (fun c168 => ?_) (fun c168 => ?_)
                            · refine x_iload d_P_led_215 rfl ?_
                              refine x_if_eq (tgt := 223) d_P_led_217 rfl (by have := zc_or (∀ j, 0 ≤ j → j < k → R3 44 (55 * q + j) = R3 44 (55 * N + j)); rw [← hsm] at this; omega) (fun c217 => ?_) (fun c217 => ?_)
                              · refine x_iinc d_P_led_223 rfl [some (.ref ((σ 30).1)), some (vi s), some (vi x), some (vi some_), some (vi (q + 1)), some (vi same), some (vi k)] rfl rfl (lr rfl) ?_
                                refine x_goto (tgt := 144) d_P_led_226 rfl ?_
                                refine V.forget 5 [some (.ref ((σ 30).1)), some (vi s), some (vi x), some (vi some_), some (vi (q + 1)), none, some (vi k)] rfl ?_
                                refine V.forget 6 [some (.ref ((σ 30).1)), some (vi s), some (vi x), some (vi some_), some (vi (q + 1)), none, none] rfl ?_
                                exact ihq _ (by omega) (q + 1) rfl (by omega) (fun q2 a b => by
                                  by_cases e : q2 = q
                                  · rw [e]; intro e2
                                    have e3 := (mIt_ext (q := q) (N := N) (by omega) (by omega) f7).mpr (by rw [f8, mIt_of f2 (by omega)]; exact e2)
                                    exact zc_eq0.mp (hsm ▸ c217) (fun j a b => e3 j a (by omega))
                                  · exact hq2 q2 a (by omega))
                              · refine x_iload d_P_led_220 rfl ?_
                                exact x_iret d_P_led_222 rfl (lr rfl) (lr rfl) (⟨_, rfl, rfl, f1, f2, f7, Or.inr (Or.inl ⟨hgo, ⟨by omega, by omega⟩, by first | (rw [← mIt_of f2 (by omega), ← f8]; exact (mIt_ext (by omega) (by omega) f7).mp (fun j a b => (zc_ne.mp (show zc (∀ j, 0 ≤ j → j < k → R3 44 (55 * q + j) = R3 44 (55 * N + j)) ≠ 0 from hsm ▸ c217)) j a (by omega))) | exact absurd c168 c217, f30⟩)⟩)
                            · have g1 := f7 (55 * q + k) (by omega) (by omega)
                              have g2 := f7 (55 * N + k) (by omega) (by omega)
                              have g3 := g1.1
                              have g4 := g1.2
                              have g5 := g2.1
                              have g6 := g2.2
                              refine x_aload_n d_P_led_171 0 rfl rfl ?_
                              refine x_getc 30 13 44 44 fl_P_36 tk_23_13 (hM.at 0 rfl) rfl rfl d_P_led_172 ?_
                              refine x_bipush d_P_led_175 rfl ?_
                              refine x_iload d_P_led_177 rfl ?_
                              refine x_imul d_P_led_179 ?_
                              refine x_iload d_P_led_180 rfl ?_
                              refine x_iadd d_P_led_182 ?_
                              refine x_iald 44 (R3 44 ((55 * q) + k)) (hM.at 9 rfl) rfl ⟨by decide, rfl, by decide⟩ rfl (by omega) rfl d_P_led_183 ?_
                              refine x_aload_n d_P_led_184 0 rfl rfl ?_
                              refine x_getc 30 13 44 44 fl_P_36 tk_23_13 (hM.at 0 rfl) rfl rfl d_P_led_185 ?_
                              refine x_bipush d_P_led_188 rfl ?_
                              refine x_aload_n d_P_led_190 0 rfl rfl ?_
                              refine x_geti 30 11 11 N fl_P_115 tk_23_11 (hM.at 0 rfl) rfl rfl f30 d_P_led_191 ?_
                              refine x_imul d_P_led_194 ?_
                              refine x_iload d_P_led_195 rfl ?_
                              refine x_iadd d_P_led_197 ?_
                              refine x_iald 44 (R3 44 ((55 * N) + k)) (hM.at 9 rfl) rfl ⟨by decide, rfl, by decide⟩ rfl (by omega) rfl d_P_led_198 ?_
                              refine x_icmp_ne (tgt := 206) d_P_led_199 rfl (by omega) (by omega) (fun c199 => ?_) (fun c199 => ?_)
                              · refine x_iconst d_P_led_206 ?_
                                refine x_istore d_P_led_207 [some (.ref ((σ 30).1)), some (vi s), some (vi x), some (vi some_), some (vi q), some (vi 0), some (vi k)] rfl rfl (lr rfl) ?_
                                refine x_iinc d_P_led_209 rfl [some (.ref ((σ 30).1)), some (vi s), some (vi x), some (vi some_), some (vi q), some (vi 0), some (vi (k + 1))] rfl rfl (lr rfl) ?_
                                refine x_goto (tgt := 159) d_P_led_212 rfl ?_
                                exact ihk _ (by omega) (k + 1) 0 rfl (by omega) (zca_f (by omega) (by omega))
                              · refine x_iconst d_P_led_202 ?_
                                refine x_goto (tgt := 207) d_P_led_203 rfl ?_
                                refine x_istore d_P_led_207 [some (.ref ((σ 30).1)), some (vi s), some (vi x), some (vi some_), some (vi q), some (vi 1), some (vi k)] rfl rfl (lr rfl) ?_
                                refine x_iinc d_P_led_209 rfl [some (.ref ((σ 30).1)), some (vi s), some (vi x), some (vi some_), some (vi q), some (vi 1), some (vi (k + 1))] rfl rfl (lr rfl) ?_
                                refine x_goto (tgt := 159) d_P_led_212 rfl ?_
                                exact ihk _ (by omega) (k + 1) 1 rfl (by omega) (zca_t hsm (by omega) (by omega))
                      exact hlk _ 0 1 rfl (by omega) (zca_e (Int.le_refl _))
                exact hlq _ 0 rfl (by omega) (fun q2 a b => by omega)
              · refine x_iconst d_P_led_131 ?_
                exact x_iret d_P_led_132 rfl (lr rfl) (lr rfl) (⟨_, rfl, rfl, fun a b c _ => hld.1 a b c, hld.2.1, hld.2.2.1, Or.inl ⟨fun q => hdn.2.mpr q c128, rfl, (hld.1 30 11 (by decide)).trans hN⟩⟩)
            · refine x_iconst d_P_led_44 ?_
              refine x_istore d_P_led_45 [some (.ref ((σ 30).1)), some (vi s), some (vi x), some (vi some_), some (vi r), some (vi 0), none] rfl rfl (lr rfl) ?_
              have hlp : ∀ (m : Nat) (p : Int) (some_ : Int) (R2 : xR), (4 - p).toNat = m → (0 ≤ p ∧ p ≤ 4) → (mLd R R2 N s x r p some_) → V X m_P_led (3, 0, 0, Zm σ (fun z R1 => mLdP R R1 N s x z)) σ R2 0 0 47 [some (.ref ((σ 30).1)), some (vi s), some (vi x), some (vi some_), some (vi r), some (vi p), none] [] := by
                intro m
                induction m using Nat.strongRecOn with
                | _ m ihp =>
                  intro p some_ R2 hmp hp1 hld
                  refine x_iload d_P_led_47 rfl ?_
                  refine x_iconst d_P_led_49 ?_
                  refine x_icmp_ge (tgt := 121) d_P_led_50 rfl (by omega) (by omega) (fun c50 => ?_) (fun c50 => ?_)
                  · refine x_iinc d_P_led_121 rfl [some (.ref ((σ 30).1)), some (vi s), some (vi x), some (vi some_), some (vi (r + 1)), some (vi p), none] rfl rfl (lr rfl) ?_
                    refine x_goto (tgt := 37) d_P_led_124 rfl ?_
                    refine V.forget 5 [some (.ref ((σ 30).1)), some (vi s), some (vi x), some (vi some_), some (vi (r + 1)), none, none] rfl ?_
                    exact ihr _ (by omega) (r + 1) some_ R2 rfl (by omega) (by rw [show p = 4 by omega] at hld; exact hld.row)
                  · have hg2 := hg.moved hld.1
                    have f36 := hg2.2.2.1 r (by omega) (by omega)
                    have e36 : R2 36 r = R 36 r := hld.1 36 r (by decide)
                    have e37 : R2 37 (4 * r + p) = R 37 (4 * r + p) := hld.1 37 _ (by decide)
                    have g7 := h7 (55 * s + 5 * r + p) (by omega) (by omega)
                    have g8 := g7.1
                    have g9 := g7.2
                    refine x_aload_n d_P_led_53 0 rfl rfl ?_
                    refine x_getc 30 13 44 44 fl_P_36 tk_23_13 (hM.at 0 rfl) rfl rfl d_P_led_54 ?_
                    refine x_bipush d_P_led_57 rfl ?_
                    refine x_iload_n d_P_led_59 1 rfl rfl ?_
                    refine x_imul d_P_led_60 ?_
                    refine x_iconst d_P_led_61 ?_
                    refine x_iload d_P_led_62 rfl ?_
                    refine x_imul d_P_led_64 ?_
                    refine x_iadd d_P_led_65 ?_
                    refine x_iload d_P_led_66 rfl ?_
                    refine x_iadd d_P_led_68 ?_
                    refine x_iald 44 (R 44 (55 * s + 5 * r + p)) (hM.at 9 rfl) rfl ⟨by decide, rfl, by decide⟩ rfl (by omega) (hld.2.1 _ (by omega)) d_P_led_69 ?_
                    refine x_istore d_P_led_70 [some (.ref ((σ 30).1)), some (vi s), some (vi x), some (vi some_), some (vi r), some (vi p), some (vi (R 44 (55 * s + 5 * r + p)))] rfl rfl (lr rfl) ?_
                    refine x_iload d_P_led_72 rfl ?_
                    refine x_if_eq (tgt := 115) d_P_led_74 rfl (by omega) (fun c74 => ?_) (fun c74 => ?_)
                    · have hnt : ¬ mTg R s x r p := fun q => by have q0 := q.1; have q1 := q.2.1; have q2 := q.2.2; first | omega | (rcases hx6 with w | w <;> omega)
                      refine x_iinc d_P_led_115 rfl [some (.ref ((σ 30).1)), some (vi s), some (vi x), some (vi some_), some (vi r), some (vi (p + 1)), some (vi (R 44 (55 * s + 5 * r + p)))] rfl rfl (lr rfl) ?_
                      refine x_goto (tgt := 47) d_P_led_118 rfl ?_
                      refine V.forget 6 [some (.ref ((σ 30).1)), some (vi s), some (vi x), some (vi some_), some (vi r), some (vi (p + 1)), none] rfl ?_
                      exact ihp _ (by omega) (p + 1) some_ R2 rfl (by omega) (hld.no (fun q => by first | exact q.1 (by omega) | exact hnt q))
                    · refine x_aload_n d_P_led_77 0 rfl rfl ?_
                      refine x_iload d_P_led_78 rfl ?_
                      refine x_iload d_P_led_80 rfl ?_
                      refine x_cvi 30 (As := [vi r, vi p]) (c_P_symbol (R := R2) hM r p (by omega) (by omega) f36) cs_P_107 hthis rfl rfl (lr rfl) d_P_led_82 (lr rfl) ⟨lr rfl, lr rfl⟩ ?_
                      refine V.top (fun x6 ex6 => ?_)
                      have hx6 := sy_or ex6
                      have hx7 : -1 ≤ x6 ∧ x6 ≤ 11 := by
                        rcases hx6 with ⟨q1, q2⟩ | ⟨q1, q2⟩
                        · have := hg2.2.2.2.1 r p (by omega) (by omega) (by omega) q1; omega
                        · omega
                      refine x_iload_n d_P_led_85 2 rfl rfl ?_
                      refine x_icmp_ne (tgt := 115) d_P_led_86 rfl (by omega) (by omega) (fun c86 => ?_) (fun c86 => ?_)
                      · have hnt : ¬ mTg R s x r p := fun q => by have q0 := q.1; have q1 := q.2.1; have q2 := q.2.2; first | omega | (rcases hx6 with w | w <;> omega)
                        refine x_iinc d_P_led_115 rfl [some (.ref ((σ 30).1)), some (vi s), some (vi x), some (vi some_), some (vi r), some (vi (p + 1)), some (vi (R 44 (55 * s + 5 * r + p)))] rfl rfl (lr rfl) ?_
                        refine x_goto (tgt := 47) d_P_led_118 rfl ?_
                        refine V.forget 6 [some (.ref ((σ 30).1)), some (vi s), some (vi x), some (vi some_), some (vi r), some (vi (p + 1)), none] rfl ?_
                        exact ihp _ (by omega) (p + 1) some_ R2 rfl (by omega) (hld.no (fun q => by first | exact q.1 (by omega) | exact hnt q))
                      · have hyt : mTg R s x r p := ⟨by omega, by rcases hx6 with q | q <;> omega, by rcases hx6 with q | q <;> omega⟩
                        refine x_aload_n d_P_led_89 0 rfl rfl ?_
                        refine x_getc 30 13 44 44 fl_P_36 tk_23_13 (hM.at 0 rfl) rfl rfl d_P_led_90 ?_
                        refine x_bipush d_P_led_93 rfl ?_
                        refine x_aload_n d_P_led_95 0 rfl rfl ?_
                        refine x_geti 30 11 11 N fl_P_115 tk_23_11 (hM.at 0 rfl) rfl rfl ((hld.1 30 11 (by decide)).trans hN) d_P_led_96 ?_
                        refine x_imul d_P_led_99 ?_
                        refine x_iconst d_P_led_100 ?_
                        refine x_iload d_P_led_101 rfl ?_
                        refine x_imul d_P_led_103 ?_
                        refine x_iadd d_P_led_104 ?_
                        refine x_iload d_P_led_105 rfl ?_
                        refine x_iadd d_P_led_107 ?_
                        refine x_iconst d_P_led_108 ?_
                        refine x_iadd d_P_led_109 ?_
                        refine x_iload d_P_led_110 rfl ?_
                        refine x_iast 44 (hM.at 9 rfl) rfl ⟨by decide, rfl, by decide⟩ rfl (by omega) d_P_led_112 (fun Q1 hQ1 => ?_)
                        refine x_iconst d_P_led_113 ?_
                        refine x_istore_n d_P_led_114 3 rfl [some (.ref ((σ 30).1)), some (vi s), some (vi x), some (vi 1), some (vi r), some (vi p), some (vi (R 44 (55 * s + 5 * r + p)))] rfl rfl (lr rfl) ?_
                        refine x_iinc d_P_led_115 rfl [some (.ref ((σ 30).1)), some (vi s), some (vi x), some (vi 1), some (vi r), some (vi (p + 1)), some (vi (R 44 (55 * s + 5 * r + p)))] rfl rfl (lr rfl) ?_
                        refine x_goto (tgt := 47) d_P_led_118 rfl ?_
                        refine V.forget 6 [some (.ref ((σ 30).1)), some (vi s), some (vi x), some (vi 1), some (vi r), some (vi (p + 1)), none] rfl ?_
                        exact ihp _ (by omega) (p + 1) 1 Q1 rfl (by omega) (hld.yes hs hN1.2 (by omega) (by omega) hyt (h7 _ (by omega) (by omega)) hQ1)
              exact hlp _ 0 some_ R2 rfl (by omega) hld
        exact hlr _ 0 0 R1 rfl (by omega) (mLd.zero hc0.1 (fun i hi => hc0.2.1 i (by omega)) (fun i a b => hc0.2.2 i a (by omega)) h7)
      · refine x_aload_n d_P_led_12 0 rfl rfl ?_
        refine x_getc 30 13 44 44 fl_P_36 tk_23_13 (hM.at 0 rfl) rfl rfl d_P_led_13 ?_
        refine x_bipush d_P_led_16 rfl ?_
        refine x_aload_n d_P_led_18 0 rfl rfl ?_
        refine x_geti 30 11 11 N fl_P_115 tk_23_11 (hM.at 0 rfl) rfl rfl ((hc0.1 30 11 (by decide)).trans hN) d_P_led_19 ?_
        refine x_imul d_P_led_22 ?_
        refine x_iload d_P_led_23 rfl ?_
        refine x_iadd d_P_led_25 ?_
        refine x_iconst d_P_led_26 ?_
        refine x_iast 44 (hM.at 9 rfl) rfl ⟨by decide, rfl, by decide⟩ rfl (by omega) d_P_led_27 (fun Q1 hQ1 => ?_)
        refine x_iinc d_P_led_28 rfl [some (.ref ((σ 30).1)), some (vi s), some (vi x), some (vi 0), some (vi (k + 1)), none, none] rfl rfl (lr rfl) ?_
        refine x_goto (tgt := 5) d_P_led_31 rfl ?_
        exact ih _ (by omega) (k + 1) Q1 rfl (by omega) (hc0.step (by omega) hQ1)
  refine x_iconst d_P_led_0 ?_
  refine x_istore_n d_P_led_1 3 rfl [some (.ref ((σ 30).1)), some (vi s), some (vi x), some (vi 0), none, none, none] rfl rfl (lr rfl) ?_
  refine x_iconst d_P_led_2 ?_
  refine x_istore d_P_led_3 [some (.ref ((σ 30).1)), some (vi s), some (vi x), some (vi 0), some (vi 0), none, none] rfl rfl (lr rfl) ?_
  exact hl0 _ 0 R rfl (by omega) ⟨fun _ _ _ => rfl, fun _ _ => rfl, fun i a b => by omega⟩
theorem iand_0 (a : Int) : iand a 0 = 0 := by unfold iand; simp
theorem zero_iand (a : Int) : iand 0 a = 0 := by unfold iand; simp
set_option maxHeartbeats 4000000 in
set_option maxRecDepth 100000 in
theorem c_P_isConflict {σ : xS} {R : xR} (hM : xsh σ mshape) (hg : mGr R) (h7 : ∀ i, 0 ≤ i → i < 2310 → s7 (R 44 i)) (s : Int) (hs : 0 ≤ s ∧ s ≤ 40) : Ct m_P_isConflict 3 0 0 [.ref (σ 30).1, vi s] σ R (Zi σ R (zc (gCf (gM R) (mIt R s)))) := by
  refine Ct.of [some (.ref ((σ 30).1)), some (vi s), none, none, none, none, none, none] rfl (by decide +kernel) (lr rfl) (fun X => ?_)
  have hthis := thisM hM
  have hl : ∀ (m : Nat) (r : Int), (11 - r).toNat = m → (0 ≤ r ∧ r ≤ 11) → (∀ r2 q2 p2, 0 ≤ r2 → 0 ≤ q2 → q2 ≤ 10 → 0 ≤ p2 → p2 ≤ 4 → (r2 < r) → ¬ mCfq R s r2 q2 p2) → V X m_P_isConflict (3, 0, 0, Zi σ R (zc (gCf (gM R) (mIt R s)))) σ R 0 0 2 [some (.ref ((σ 30).1)), some (vi s), some (vi r), none, none, none, none, none] [] := by
    intro m
    induction m using Nat.strongRecOn with
    | _ m ih =>
      intro r hm hr1 hno
      refine x_iload_n d_P_isConflict_2 2 rfl rfl ?_
      refine x_bipush d_P_isConflict_3 rfl ?_
      refine x_icmp_ge (tgt := 178) d_P_isConflict_5 rfl (by omega) (by omega) (fun c5 => ?_) (fun c5 => ?_)
      · refine x_iconst d_P_isConflict_178 ?_
        exact x_zret d_P_isConflict_179 rfl (narz (by omega)) (lr rfl) (lr rfl) (⟨by rw [zc_f (fun q => by obtain ⟨r2, q2, p2, a, b, c, d⟩ := (mCf_iff hg (by omega) h7).mpr q; exact hno r2 q2 p2 a.1 b.1 b.2 c.1 c.2 (by omega) d)], rfl, rfl⟩)
      · have f36r := hg.2.2.1 r (by omega) (by omega)
        refine x_aload_n d_P_isConflict_8 0 rfl rfl ?_
        refine x_getc 30 13 44 44 fl_P_36 tk_23_13 (hM.at 0 rfl) rfl rfl d_P_isConflict_9 ?_
        refine x_bipush d_P_isConflict_12 rfl ?_
        refine x_iload_n d_P_isConflict_14 1 rfl rfl ?_
        refine x_imul d_P_isConflict_15 ?_
        refine x_iconst d_P_isConflict_16 ?_
        refine x_iload_n d_P_isConflict_17 2 rfl rfl ?_
        refine x_imul d_P_isConflict_18 ?_
        refine x_iadd d_P_isConflict_19 ?_
        refine x_aload_n d_P_isConflict_20 0 rfl rfl ?_
        refine x_getc 30 5 36 36 fl_P_17 tk_23_5 (hM.at 0 rfl) rfl rfl d_P_isConflict_21 ?_
        refine x_iload_n d_P_isConflict_24 2 rfl rfl ?_
        refine x_iald 36 (R 36 r) (hM.at 3 rfl) rfl ⟨by decide, rfl, by decide⟩ rfl (by omega) rfl d_P_isConflict_25 ?_
        refine x_iadd d_P_isConflict_26 ?_
        refine x_iald 44 (R 44 (((55 * s) + (5 * r)) + (R 36 r))) (hM.at 9 rfl) rfl ⟨by decide, rfl, by decide⟩ rfl (by omega) rfl d_P_isConflict_27 ?_
        refine x_istore_n d_P_isConflict_28 3 rfl [some (.ref ((σ 30).1)), some (vi s), some (vi r), some (vi (R 44 (((55 * s) + (5 * r)) + (R 36 r)))), none, none, none, none] rfl rfl (lr rfl) ?_
        refine x_iconst d_P_isConflict_29 ?_
        refine x_istore d_P_isConflict_30 [some (.ref ((σ 30).1)), some (vi s), some (vi r), some (vi (R 44 (((55 * s) + (5 * r)) + (R 36 r)))), some (vi 0), none, none, none] rfl rfl (lr rfl) ?_
        have gs7 := h7 (55 * s + 5 * r + R 36 r) (by omega) (by omega)
        have gs8 := gs7.1
        have gs9 := gs7.2
        have hlq : ∀ (m : Nat) (q : Int), (11 - q).toNat = m → (0 ≤ q ∧ q ≤ 11) → (∀ r2 q2 p2, 0 ≤ r2 → 0 ≤ q2 → q2 ≤ 10 → 0 ≤ p2 → p2 ≤ 4 → (r2 < r ∨ (r2 = r ∧ q2 < q)) → ¬ mCfq R s r2 q2 p2) → V X m_P_isConflict (3, 0, 0, Zi σ R (zc (gCf (gM R) (mIt R s)))) σ R 0 0 32 [some (.ref ((σ 30).1)), some (vi s), some (vi r), some (vi (R 44 (55 * s + 5 * r + R 36 r))), some (vi q), none, none, none] [] := by
          intro m
          induction m using Nat.strongRecOn with
          | _ m ihq =>
            intro q hmq hq1 hno
            refine x_iload d_P_isConflict_32 rfl ?_
            refine x_bipush d_P_isConflict_34 rfl ?_
            refine x_icmp_ge (tgt := 172) d_P_isConflict_36 rfl (by omega) (by omega) (fun c36 => ?_) (fun c36 => ?_)
            · refine x_iinc d_P_isConflict_172 rfl [some (.ref ((σ 30).1)), some (vi s), some (vi (r + 1)), some (vi (R 44 (55 * s + 5 * r + R 36 r))), some (vi q), none, none, none] rfl rfl (lr rfl) ?_
              refine x_goto (tgt := 2) d_P_isConflict_175 rfl ?_
              refine V.forget 3 [some (.ref ((σ 30).1)), some (vi s), some (vi (r + 1)), none, some (vi q), none, none, none] rfl ?_
              refine V.forget 4 [some (.ref ((σ 30).1)), some (vi s), some (vi (r + 1)), none, none, none, none, none] rfl ?_
              exact ih _ (by omega) (r + 1) rfl (by omega) (fun r2 q2 p2 a b b2 c c2 d => by
                by_cases e : r2 < r ∨ (r2 = r ∧ q2 < q)
                · exact hno r2 q2 p2 a b b2 c c2 e
                · have e1 : r2 = r := by omega
                  subst e1
                  rintro ⟨d1, d2, ⟨d3, d4⟩ | ⟨d3, d4, d5, d6⟩⟩
                  · first | omega | (rw [c40] at d4; exact d4 (iand_0 _))
                  · first | omega | (rw [c40] at d6; exact hb_0 _ d6))
            · refine x_iload_n d_P_isConflict_39 3 rfl rfl ?_
              refine x_if_eq (tgt := 172) d_P_isConflict_40 rfl (by omega) (fun c40 => ?_) (fun c40 => ?_)
              · refine x_iinc d_P_isConflict_172 rfl [some (.ref ((σ 30).1)), some (vi s), some (vi (r + 1)), some (vi (R 44 (55 * s + 5 * r + R 36 r))), some (vi q), none, none, none] rfl rfl (lr rfl) ?_
                refine x_goto (tgt := 2) d_P_isConflict_175 rfl ?_
                refine V.forget 3 [some (.ref ((σ 30).1)), some (vi s), some (vi (r + 1)), none, some (vi q), none, none, none] rfl ?_
                refine V.forget 4 [some (.ref ((σ 30).1)), some (vi s), some (vi (r + 1)), none, none, none, none, none] rfl ?_
                exact ih _ (by omega) (r + 1) rfl (by omega) (fun r2 q2 p2 a b b2 c c2 d => by
                  by_cases e : r2 < r ∨ (r2 = r ∧ q2 < q)
                  · exact hno r2 q2 p2 a b b2 c c2 e
                  · have e1 : r2 = r := by omega
                    subst e1
                    rintro ⟨d1, d2, ⟨d3, d4⟩ | ⟨d3, d4, d5, d6⟩⟩
                    · first | omega | (rw [c40] at d4; exact d4 (iand_0 _))
                    · first | omega | (rw [c40] at d6; exact hb_0 _ d6))
              · refine x_iconst d_P_isConflict_43 ?_
                refine x_istore d_P_isConflict_44 [some (.ref ((σ 30).1)), some (vi s), some (vi r), some (vi (R 44 (55 * s + 5 * r + R 36 r))), some (vi q), some (vi 0), none, none] rfl rfl (lr rfl) ?_
                have hlp : ∀ (m : Nat) (p : Int), (5 - p).toNat = m → (0 ≤ p ∧ p ≤ 5) → (∀ r2 q2 p2, 0 ≤ r2 → 0 ≤ q2 → q2 ≤ 10 → 0 ≤ p2 → p2 ≤ 4 → (r2 < r ∨ (r2 = r ∧ (q2 < q ∨ (q2 = q ∧ p2 < p)))) → ¬ mCfq R s r2 q2 p2) → V X m_P_isConflict (3, 0, 0, Zi σ R (zc (gCf (gM R) (mIt R s)))) σ R 0 0 46 [some (.ref ((σ 30).1)), some (vi s), some (vi r), some (vi (R 44 (55 * s + 5 * r + R 36 r))), some (vi q), some (vi p), none, none] [] := by
                  intro m
                  induction m using Nat.strongRecOn with
                  | _ m ihp =>
                    intro p hmp hp1 hno
                    refine x_iload d_P_isConflict_46 rfl ?_
                    refine x_iconst d_P_isConflict_48 ?_
                    refine x_icmp_ge (tgt := 166) d_P_isConflict_49 rfl (by omega) (by omega) (fun c49 => ?_) (fun c49 => ?_)
                    · refine x_iinc d_P_isConflict_166 rfl [some (.ref ((σ 30).1)), some (vi s), some (vi r), some (vi (R 44 (55 * s + 5 * r + R 36 r))), some (vi (q + 1)), some (vi p), none, none] rfl rfl (lr rfl) ?_
                      refine x_goto (tgt := 32) d_P_isConflict_169 rfl ?_
                      refine V.forget 5 [some (.ref ((σ 30).1)), some (vi s), some (vi r), some (vi (R 44 (55 * s + 5 * r + R 36 r))), some (vi (q + 1)), none, none, none] rfl ?_
                      exact ihq _ (by omega) (q + 1) rfl (by omega) (fun r2 q2 p2 a b b2 c c2 d => hno r2 q2 p2 a b b2 c c2 (by omega))
                    · have f36 := hg.2.2.1 q (by omega) (by omega)
                      have f36r := hg.2.2.1 r (by omega) (by omega)
                      refine x_iload d_P_isConflict_52 rfl ?_
                      refine x_iload_n d_P_isConflict_54 2 rfl rfl ?_
                      refine x_icmp_ne (tgt := 69) d_P_isConflict_55 rfl (by omega) (by omega) (fun c55 => ?_) (fun c55 => ?_)
                      · refine x_iload d_P_isConflict_69 rfl ?_
                        refine x_aload_n d_P_isConflict_71 0 rfl rfl ?_
                        refine x_getc 30 5 36 36 fl_P_17 tk_23_5 (hM.at 0 rfl) rfl rfl d_P_isConflict_72 ?_
                        refine x_iload d_P_isConflict_75 rfl ?_
                        refine x_iald 36 (R 36 q) (hM.at 3 rfl) rfl ⟨by decide, rfl, by decide⟩ rfl (by omega) rfl d_P_isConflict_77 ?_
                        refine x_icmp_le (tgt := 85) d_P_isConflict_78 rfl (by omega) (by omega) (fun c78 => ?_) (fun c78 => ?_)
                        · have g7 := h7 (55 * s + 5 * q + p) (by omega) (by omega)
                          have g8 := g7.1
                          have g9 := g7.2
                          refine x_aload_n d_P_isConflict_85 0 rfl rfl ?_
                          refine x_getc 30 13 44 44 fl_P_36 tk_23_13 (hM.at 0 rfl) rfl rfl d_P_isConflict_86 ?_
                          refine x_bipush d_P_isConflict_89 rfl ?_
                          refine x_iload_n d_P_isConflict_91 1 rfl rfl ?_
                          refine x_imul d_P_isConflict_92 ?_
                          refine x_iconst d_P_isConflict_93 ?_
                          refine x_iload d_P_isConflict_94 rfl ?_
                          refine x_imul d_P_isConflict_96 ?_
                          refine x_iadd d_P_isConflict_97 ?_
                          refine x_iload d_P_isConflict_98 rfl ?_
                          refine x_iadd d_P_isConflict_100 ?_
                          refine x_iald 44 (R 44 (((55 * s) + (5 * q)) + p)) (hM.at 9 rfl) rfl ⟨by decide, rfl, by decide⟩ rfl (by omega) rfl d_P_isConflict_101 ?_
                          refine x_istore d_P_isConflict_102 [some (.ref ((σ 30).1)), some (vi s), some (vi r), some (vi (R 44 (55 * s + 5 * r + R 36 r))), some (vi q), some (vi p), some (vi (R 44 (((55 * s) + (5 * q)) + p))), none] rfl rfl (lr rfl) ?_
                          refine x_aload_n d_P_isConflict_104 0 rfl rfl ?_
                          refine x_iload d_P_isConflict_105 rfl ?_
                          refine x_iload d_P_isConflict_107 rfl ?_
                          refine x_cvi 30 (As := [vi q, vi p]) (c_P_symbol (R := R) hM q p (by omega) (by omega) f36) cs_P_107 hthis rfl rfl (lr rfl) d_P_isConflict_109 (lr rfl) ⟨lr rfl, lr rfl⟩ ?_
                          refine V.top (fun x6 ex6 => ?_)
                          have hx6 := sy_or ex6
                          have hx7 : -1 ≤ x6 ∧ x6 ≤ 11 := by
                            rcases hx6 with ⟨q1, q2⟩ | ⟨q1, q2⟩
                            · have := hg.2.2.2.1 q p (by omega) (by omega) (by omega) q1; omega
                            · omega
                          refine x_istore d_P_isConflict_112 [some (.ref ((σ 30).1)), some (vi s), some (vi r), some (vi (R 44 (55 * s + 5 * r + R 36 r))), some (vi q), some (vi p), some (vi (R 44 (((55 * s) + (5 * q)) + p))), some (vi x6)] rfl rfl (lr rfl) ?_
                          refine x_iload d_P_isConflict_114 rfl ?_
                          refine x_if_eq (tgt := 160) d_P_isConflict_116 rfl (by omega) (fun c116 => ?_) (fun c116 => ?_)
                          · refine x_iinc d_P_isConflict_160 rfl [some (.ref ((σ 30).1)), some (vi s), some (vi r), some (vi (R 44 (55 * s + 5 * r + R 36 r))), some (vi q), some (vi (p + 1)), some (vi (R 44 (((55 * s) + (5 * q)) + p))), some (vi x6)] rfl rfl (lr rfl) ?_
                            refine x_goto (tgt := 46) d_P_isConflict_163 rfl ?_
                            refine V.forget 6 [some (.ref ((σ 30).1)), some (vi s), some (vi r), some (vi (R 44 (55 * s + 5 * r + R 36 r))), some (vi q), some (vi (p + 1)), none, some (vi x6)] rfl ?_
                            refine V.forget 7 [some (.ref ((σ 30).1)), some (vi s), some (vi r), some (vi (R 44 (55 * s + 5 * r + R 36 r))), some (vi q), some (vi (p + 1)), none, none] rfl ?_
                            exact ihp _ (by omega) (p + 1) rfl (by omega) (fun r2 q2 p2 a b b2 c c2 d => by
                              by_cases e : r2 = r ∧ q2 = q ∧ p2 = p
                              · obtain ⟨rfl, rfl, rfl⟩ := e
                                rintro ⟨d1, d2, ⟨d3, d4⟩ | ⟨d3, d4, d5, d6⟩⟩
                                · first | exact d1 ⟨by omega, by omega⟩ | omega | exact d4 (by rw [iand_0]) | (rw [c116] at d4; exact d4 (zero_iand _)) | exact d4 c135
                                · first | exact d1 ⟨by omega, by omega⟩ | omega | (rcases hx6 with w | w <;> first | omega | (rw [← w.2] at d6; exact absurd (zc_t d6) (by omega)))
                              · exact hno r2 q2 p2 a b b2 c c2 (by omega))
                          · refine x_iload d_P_isConflict_119 rfl ?_
                            refine x_aload_n d_P_isConflict_121 0 rfl rfl ?_
                            refine x_getc 30 5 36 36 fl_P_17 tk_23_5 (hM.at 0 rfl) rfl rfl d_P_isConflict_122 ?_
                            refine x_iload d_P_isConflict_125 rfl ?_
                            refine x_iald 36 (R 36 q) (hM.at 3 rfl) rfl ⟨by decide, rfl, by decide⟩ rfl (by omega) rfl d_P_isConflict_127 ?_
                            refine x_icmp_ne (tgt := 141) d_P_isConflict_128 rfl (by omega) (by omega) (fun c128 => ?_) (fun c128 => ?_)
                            · refine x_iload d_P_isConflict_141 rfl ?_
                              refine x_bipush d_P_isConflict_143 rfl ?_
                              refine x_icmp_ge (tgt := 160) d_P_isConflict_145 rfl (by omega) (by omega) (fun c145 => ?_) (fun c145 => ?_)
                              · refine x_iinc d_P_isConflict_160 rfl [some (.ref ((σ 30).1)), some (vi s), some (vi r), some (vi (R 44 (55 * s + 5 * r + R 36 r))), some (vi q), some (vi (p + 1)), some (vi (R 44 (((55 * s) + (5 * q)) + p))), some (vi x6)] rfl rfl (lr rfl) ?_
                                refine x_goto (tgt := 46) d_P_isConflict_163 rfl ?_
                                refine V.forget 6 [some (.ref ((σ 30).1)), some (vi s), some (vi r), some (vi (R 44 (55 * s + 5 * r + R 36 r))), some (vi q), some (vi (p + 1)), none, some (vi x6)] rfl ?_
                                refine V.forget 7 [some (.ref ((σ 30).1)), some (vi s), some (vi r), some (vi (R 44 (55 * s + 5 * r + R 36 r))), some (vi q), some (vi (p + 1)), none, none] rfl ?_
                                exact ihp _ (by omega) (p + 1) rfl (by omega) (fun r2 q2 p2 a b b2 c c2 d => by
                                  by_cases e : r2 = r ∧ q2 = q ∧ p2 = p
                                  · obtain ⟨rfl, rfl, rfl⟩ := e
                                    rintro ⟨d1, d2, ⟨d3, d4⟩ | ⟨d3, d4, d5, d6⟩⟩
                                    · first | exact d1 ⟨by omega, by omega⟩ | omega | exact d4 (by rw [iand_0]) | (rw [c116] at d4; exact d4 (zero_iand _)) | exact d4 c135
                                    · first | exact d1 ⟨by omega, by omega⟩ | omega | (rcases hx6 with w | w <;> first | omega | (rw [← w.2] at d6; exact absurd (zc_t d6) (by omega)))
                                  · exact hno r2 q2 p2 a b b2 c c2 (by omega))
                              · have hx8 := hx6.resolve_right (by omega)
                                have hx9 := hg.2.2.2.1 q p (by omega) (by omega) (by omega) hx8.1
                                refine x_iload_n d_P_isConflict_148 3 rfl rfl ?_
                                refine x_iload d_P_isConflict_149 rfl ?_
                                refine x_ishr d_P_isConflict_151 (ishr (R 44 (55 * s + 5 * r + R 36 r)) x6) (iI_ishr gs7 (by omega)) ?_
                                refine x_iconst d_P_isConflict_152 ?_
                                refine x_iand d_P_isConflict_153 (zc (hb (R 44 (55 * s + 5 * r + R 36 r)) x6)) (iI_bit gs7 (by omega)) ?_
                                refine x_iconst d_P_isConflict_154 ?_
                                refine x_icmp_ne (tgt := 160) d_P_isConflict_155 rfl (by have := zc_or (hb (R 44 (55 * s + 5 * r + R 36 r)) x6); omega) (by omega) (fun c155 => ?_) (fun c155 => ?_)
                                · refine x_iinc d_P_isConflict_160 rfl [some (.ref ((σ 30).1)), some (vi s), some (vi r), some (vi (R 44 (55 * s + 5 * r + R 36 r))), some (vi q), some (vi (p + 1)), some (vi (R 44 (((55 * s) + (5 * q)) + p))), some (vi x6)] rfl rfl (lr rfl) ?_
                                  refine x_goto (tgt := 46) d_P_isConflict_163 rfl ?_
                                  refine V.forget 6 [some (.ref ((σ 30).1)), some (vi s), some (vi r), some (vi (R 44 (55 * s + 5 * r + R 36 r))), some (vi q), some (vi (p + 1)), none, some (vi x6)] rfl ?_
                                  refine V.forget 7 [some (.ref ((σ 30).1)), some (vi s), some (vi r), some (vi (R 44 (55 * s + 5 * r + R 36 r))), some (vi q), some (vi (p + 1)), none, none] rfl ?_
                                  exact ihp _ (by omega) (p + 1) rfl (by omega) (fun r2 q2 p2 a b b2 c c2 d => by
                                    by_cases e : r2 = r ∧ q2 = q ∧ p2 = p
                                    · obtain ⟨rfl, rfl, rfl⟩ := e
                                      rintro ⟨d1, d2, ⟨d3, d4⟩ | ⟨d3, d4, d5, d6⟩⟩
                                      · first | exact d1 ⟨by omega, by omega⟩ | omega | exact d4 (by rw [iand_0]) | (rw [c116] at d4; exact d4 (zero_iand _)) | exact d4 c135
                                      · first | exact d1 ⟨by omega, by omega⟩ | omega | (rcases hx6 with w | w <;> first | omega | (rw [← w.2] at d6; exact absurd (zc_t d6) (by omega)))
                                    · exact hno r2 q2 p2 a b b2 c c2 (by omega))
                                · refine x_iconst d_P_isConflict_158 ?_
                                  exact x_zret d_P_isConflict_159 rfl (narz (by omega)) (lr rfl) (lr rfl) (⟨by rw [zc_t ((mCf_iff hg (by omega) h7).mp ⟨r, q, p, by omega, by omega, by omega, by omega, by omega, Or.inr ⟨by omega, by omega, by have := hx8.2; omega, by rw [← hx8.2]; exact zc_ne.mp (by omega)⟩⟩)], rfl, rfl⟩)
                            · refine x_iload d_P_isConflict_131 rfl ?_
                              refine x_iload_n d_P_isConflict_133 3 rfl rfl ?_
                              refine x_iand d_P_isConflict_134 (iand (R 44 (55 * s + 5 * q + p)) (R 44 (55 * s + 5 * r + R 36 r))) (iI_iand g8 gs8) ?_
                              refine x_if_eq (tgt := 160) d_P_isConflict_135 rfl (by have w9 := iand_s7 (b := R 44 (55 * s + 5 * r + R 36 r)) g7; have := w9.1; have := w9.2; omega) (fun c135 => ?_) (fun c135 => ?_)
                              · refine x_iinc d_P_isConflict_160 rfl [some (.ref ((σ 30).1)), some (vi s), some (vi r), some (vi (R 44 (55 * s + 5 * r + R 36 r))), some (vi q), some (vi (p + 1)), some (vi (R 44 (((55 * s) + (5 * q)) + p))), some (vi x6)] rfl rfl (lr rfl) ?_
                                refine x_goto (tgt := 46) d_P_isConflict_163 rfl ?_
                                refine V.forget 6 [some (.ref ((σ 30).1)), some (vi s), some (vi r), some (vi (R 44 (55 * s + 5 * r + R 36 r))), some (vi q), some (vi (p + 1)), none, some (vi x6)] rfl ?_
                                refine V.forget 7 [some (.ref ((σ 30).1)), some (vi s), some (vi r), some (vi (R 44 (55 * s + 5 * r + R 36 r))), some (vi q), some (vi (p + 1)), none, none] rfl ?_
                                exact ihp _ (by omega) (p + 1) rfl (by omega) (fun r2 q2 p2 a b b2 c c2 d => by
                                  by_cases e : r2 = r ∧ q2 = q ∧ p2 = p
                                  · obtain ⟨rfl, rfl, rfl⟩ := e
                                    rintro ⟨d1, d2, ⟨d3, d4⟩ | ⟨d3, d4, d5, d6⟩⟩
                                    · first | exact d1 ⟨by omega, by omega⟩ | omega | exact d4 (by rw [iand_0]) | (rw [c116] at d4; exact d4 (zero_iand _)) | exact d4 c135
                                    · first | exact d1 ⟨by omega, by omega⟩ | omega | (rcases hx6 with w | w <;> first | omega | (rw [← w.2] at d6; exact absurd (zc_t d6) (by omega)))
                                  · exact hno r2 q2 p2 a b b2 c c2 (by omega))
                              · refine x_goto (tgt := 158) d_P_isConflict_138 rfl ?_
                                refine x_iconst d_P_isConflict_158 ?_
                                exact x_zret d_P_isConflict_159 rfl (narz (by omega)) (lr rfl) (lr rfl) (⟨by rw [zc_t ((mCf_iff hg (by omega) h7).mp ⟨r, q, p, by omega, by omega, by omega, by omega, by omega, Or.inl ⟨by omega, c135⟩⟩)], rfl, rfl⟩)
                        · refine x_iconst d_P_isConflict_81 ?_
                          refine x_goto (tgt := 102) d_P_isConflict_82 rfl ?_
                          refine x_istore d_P_isConflict_102 [some (.ref ((σ 30).1)), some (vi s), some (vi r), some (vi (R 44 (55 * s + 5 * r + R 36 r))), some (vi q), some (vi p), some (vi 0), none] rfl rfl (lr rfl) ?_
                          refine x_aload_n d_P_isConflict_104 0 rfl rfl ?_
                          refine x_iload d_P_isConflict_105 rfl ?_
                          refine x_iload d_P_isConflict_107 rfl ?_
                          refine x_cvi 30 (As := [vi q, vi p]) (c_P_symbol (R := R) hM q p (by omega) (by omega) f36) cs_P_107 hthis rfl rfl (lr rfl) d_P_isConflict_109 (lr rfl) ⟨lr rfl, lr rfl⟩ ?_
                          refine V.top (fun x6 ex6 => ?_)
                          have hx6 := sy_or ex6
                          have hx7 : -1 ≤ x6 ∧ x6 ≤ 11 := by
                            rcases hx6 with ⟨q1, q2⟩ | ⟨q1, q2⟩
                            · have := hg.2.2.2.1 q p (by omega) (by omega) (by omega) q1; omega
                            · omega
                          refine x_istore d_P_isConflict_112 [some (.ref ((σ 30).1)), some (vi s), some (vi r), some (vi (R 44 (55 * s + 5 * r + R 36 r))), some (vi q), some (vi p), some (vi 0), some (vi x6)] rfl rfl (lr rfl) ?_
                          refine x_iload d_P_isConflict_114 rfl ?_
                          refine x_if_eq (tgt := 160) d_P_isConflict_116 rfl (by omega) (fun c116 => ?_) (fun c116 => ?_)
                          · refine x_iinc d_P_isConflict_160 rfl [some (.ref ((σ 30).1)), some (vi s), some (vi r), some (vi (R 44 (55 * s + 5 * r + R 36 r))), some (vi q), some (vi (p + 1)), some (vi 0), some (vi x6)] rfl rfl (lr rfl) ?_
                            refine x_goto (tgt := 46) d_P_isConflict_163 rfl ?_
                            refine V.forget 6 [some (.ref ((σ 30).1)), some (vi s), some (vi r), some (vi (R 44 (55 * s + 5 * r + R 36 r))), some (vi q), some (vi (p + 1)), none, some (vi x6)] rfl ?_
                            refine V.forget 7 [some (.ref ((σ 30).1)), some (vi s), some (vi r), some (vi (R 44 (55 * s + 5 * r + R 36 r))), some (vi q), some (vi (p + 1)), none, none] rfl ?_
                            exact ihp _ (by omega) (p + 1) rfl (by omega) (fun r2 q2 p2 a b b2 c c2 d => by
                              by_cases e : r2 = r ∧ q2 = q ∧ p2 = p
                              · obtain ⟨rfl, rfl, rfl⟩ := e
                                rintro ⟨d1, d2, ⟨d3, d4⟩ | ⟨d3, d4, d5, d6⟩⟩
                                · first | exact d1 ⟨by omega, by omega⟩ | omega | exact d4 (by rw [iand_0]) | (rw [c116] at d4; exact d4 (zero_iand _)) | exact d4 c135
                                · first | exact d1 ⟨by omega, by omega⟩ | omega | (rcases hx6 with w | w <;> first | omega | (rw [← w.2] at d6; exact absurd (zc_t d6) (by omega)))
                              · exact hno r2 q2 p2 a b b2 c c2 (by omega))
                          · exact absurd rfl c116
                      · refine x_iload d_P_isConflict_58 rfl ?_
                        refine x_aload_n d_P_isConflict_60 0 rfl rfl ?_
                        refine x_getc 30 5 36 36 fl_P_17 tk_23_5 (hM.at 0 rfl) rfl rfl d_P_isConflict_61 ?_
                        refine x_iload_n d_P_isConflict_64 2 rfl rfl ?_
                        refine x_iald 36 (R 36 r) (hM.at 3 rfl) rfl ⟨by decide, rfl, by decide⟩ rfl (by omega) rfl d_P_isConflict_65 ?_
                        refine x_icmp_eq (tgt := 81) d_P_isConflict_66 rfl (by omega) (by omega) (fun c66 => ?_) (fun c66 => ?_)
                        · refine x_iconst d_P_isConflict_81 ?_
                          refine x_goto (tgt := 102) d_P_isConflict_82 rfl ?_
                          refine x_istore d_P_isConflict_102 [some (.ref ((σ 30).1)), some (vi s), some (vi r), some (vi (R 44 (55 * s + 5 * r + R 36 r))), some (vi q), some (vi p), some (vi 0), none] rfl rfl (lr rfl) ?_
                          refine x_aload_n d_P_isConflict_104 0 rfl rfl ?_
                          refine x_iload d_P_isConflict_105 rfl ?_
                          refine x_iload d_P_isConflict_107 rfl ?_
                          refine x_cvi 30 (As := [vi q, vi p]) (c_P_symbol (R := R) hM q p (by omega) (by omega) f36) cs_P_107 hthis rfl rfl (lr rfl) d_P_isConflict_109 (lr rfl) ⟨lr rfl, lr rfl⟩ ?_
                          refine V.top (fun x6 ex6 => ?_)
                          have hx6 := sy_or ex6
                          have hx7 : -1 ≤ x6 ∧ x6 ≤ 11 := by
                            rcases hx6 with ⟨q1, q2⟩ | ⟨q1, q2⟩
                            · have := hg.2.2.2.1 q p (by omega) (by omega) (by omega) q1; omega
                            · omega
                          refine x_istore d_P_isConflict_112 [some (.ref ((σ 30).1)), some (vi s), some (vi r), some (vi (R 44 (55 * s + 5 * r + R 36 r))), some (vi q), some (vi p), some (vi 0), some (vi x6)] rfl rfl (lr rfl) ?_
                          refine x_iload d_P_isConflict_114 rfl ?_
                          refine x_if_eq (tgt := 160) d_P_isConflict_116 rfl (by omega) (fun c116 => ?_) (fun c116 => ?_)
                          · refine x_iinc d_P_isConflict_160 rfl [some (.ref ((σ 30).1)), some (vi s), some (vi r), some (vi (R 44 (55 * s + 5 * r + R 36 r))), some (vi q), some (vi (p + 1)), some (vi 0), some (vi x6)] rfl rfl (lr rfl) ?_
                            refine x_goto (tgt := 46) d_P_isConflict_163 rfl ?_
                            refine V.forget 6 [some (.ref ((σ 30).1)), some (vi s), some (vi r), some (vi (R 44 (55 * s + 5 * r + R 36 r))), some (vi q), some (vi (p + 1)), none, some (vi x6)] rfl ?_
                            refine V.forget 7 [some (.ref ((σ 30).1)), some (vi s), some (vi r), some (vi (R 44 (55 * s + 5 * r + R 36 r))), some (vi q), some (vi (p + 1)), none, none] rfl ?_
                            exact ihp _ (by omega) (p + 1) rfl (by omega) (fun r2 q2 p2 a b b2 c c2 d => by
                              by_cases e : r2 = r ∧ q2 = q ∧ p2 = p
                              · obtain ⟨rfl, rfl, rfl⟩ := e
                                rintro ⟨d1, d2, ⟨d3, d4⟩ | ⟨d3, d4, d5, d6⟩⟩
                                · first | exact d1 ⟨by omega, by omega⟩ | omega | exact d4 (by rw [iand_0]) | (rw [c116] at d4; exact d4 (zero_iand _)) | exact d4 c135
                                · first | exact d1 ⟨by omega, by omega⟩ | omega | (rcases hx6 with w | w <;> first | omega | (rw [← w.2] at d6; exact absurd (zc_t d6) (by omega)))
                              · exact hno r2 q2 p2 a b b2 c c2 (by omega))
                          · exact absurd rfl c116
                        · refine x_iload d_P_isConflict_69 rfl ?_
                          refine x_aload_n d_P_isConflict_71 0 rfl rfl ?_
                          refine x_getc 30 5 36 36 fl_P_17 tk_23_5 (hM.at 0 rfl) rfl rfl d_P_isConflict_72 ?_
                          refine x_iload d_P_isConflict_75 rfl ?_
                          refine x_iald 36 (R 36 q) (hM.at 3 rfl) rfl ⟨by decide, rfl, by decide⟩ rfl (by omega) rfl d_P_isConflict_77 ?_
                          refine x_icmp_le (tgt := 85) d_P_isConflict_78 rfl (by omega) (by omega) (fun c78 => ?_) (fun c78 => ?_)
                          · have g7 := h7 (55 * s + 5 * q + p) (by omega) (by omega)
                            have g8 := g7.1
                            have g9 := g7.2
                            refine x_aload_n d_P_isConflict_85 0 rfl rfl ?_
                            refine x_getc 30 13 44 44 fl_P_36 tk_23_13 (hM.at 0 rfl) rfl rfl d_P_isConflict_86 ?_
                            refine x_bipush d_P_isConflict_89 rfl ?_
                            refine x_iload_n d_P_isConflict_91 1 rfl rfl ?_
                            refine x_imul d_P_isConflict_92 ?_
                            refine x_iconst d_P_isConflict_93 ?_
                            refine x_iload d_P_isConflict_94 rfl ?_
                            refine x_imul d_P_isConflict_96 ?_
                            refine x_iadd d_P_isConflict_97 ?_
                            refine x_iload d_P_isConflict_98 rfl ?_
                            refine x_iadd d_P_isConflict_100 ?_
                            refine x_iald 44 (R 44 (((55 * s) + (5 * q)) + p)) (hM.at 9 rfl) rfl ⟨by decide, rfl, by decide⟩ rfl (by omega) rfl d_P_isConflict_101 ?_
                            refine x_istore d_P_isConflict_102 [some (.ref ((σ 30).1)), some (vi s), some (vi r), some (vi (R 44 (55 * s + 5 * r + R 36 r))), some (vi q), some (vi p), some (vi (R 44 (((55 * s) + (5 * q)) + p))), none] rfl rfl (lr rfl) ?_
                            refine x_aload_n d_P_isConflict_104 0 rfl rfl ?_
                            refine x_iload d_P_isConflict_105 rfl ?_
                            refine x_iload d_P_isConflict_107 rfl ?_
                            refine x_cvi 30 (As := [vi q, vi p]) (c_P_symbol (R := R) hM q p (by omega) (by omega) f36) cs_P_107 hthis rfl rfl (lr rfl) d_P_isConflict_109 (lr rfl) ⟨lr rfl, lr rfl⟩ ?_
                            refine V.top (fun x6 ex6 => ?_)
                            have hx6 := sy_or ex6
                            have hx7 : -1 ≤ x6 ∧ x6 ≤ 11 := by
                              rcases hx6 with ⟨q1, q2⟩ | ⟨q1, q2⟩
                              · have := hg.2.2.2.1 q p (by omega) (by omega) (by omega) q1; omega
                              · omega
                            refine x_istore d_P_isConflict_112 [some (.ref ((σ 30).1)), some (vi s), some (vi r), some (vi (R 44 (55 * s + 5 * r + R 36 r))), some (vi q), some (vi p), some (vi (R 44 (((55 * s) + (5 * q)) + p))), some (vi x6)] rfl rfl (lr rfl) ?_
                            refine x_iload d_P_isConflict_114 rfl ?_
                            refine x_if_eq (tgt := 160) d_P_isConflict_116 rfl (by omega) (fun c116 => ?_) (fun c116 => ?_)
                            · refine x_iinc d_P_isConflict_160 rfl [some (.ref ((σ 30).1)), some (vi s), some (vi r), some (vi (R 44 (55 * s + 5 * r + R 36 r))), some (vi q), some (vi (p + 1)), some (vi (R 44 (((55 * s) + (5 * q)) + p))), some (vi x6)] rfl rfl (lr rfl) ?_
                              refine x_goto (tgt := 46) d_P_isConflict_163 rfl ?_
                              refine V.forget 6 [some (.ref ((σ 30).1)), some (vi s), some (vi r), some (vi (R 44 (55 * s + 5 * r + R 36 r))), some (vi q), some (vi (p + 1)), none, some (vi x6)] rfl ?_
                              refine V.forget 7 [some (.ref ((σ 30).1)), some (vi s), some (vi r), some (vi (R 44 (55 * s + 5 * r + R 36 r))), some (vi q), some (vi (p + 1)), none, none] rfl ?_
                              exact ihp _ (by omega) (p + 1) rfl (by omega) (fun r2 q2 p2 a b b2 c c2 d => by
                                by_cases e : r2 = r ∧ q2 = q ∧ p2 = p
                                · obtain ⟨rfl, rfl, rfl⟩ := e
                                  rintro ⟨d1, d2, ⟨d3, d4⟩ | ⟨d3, d4, d5, d6⟩⟩
                                  · first | exact d1 ⟨by omega, by omega⟩ | omega | exact d4 (by rw [iand_0]) | (rw [c116] at d4; exact d4 (zero_iand _)) | exact d4 c135
                                  · first | exact d1 ⟨by omega, by omega⟩ | omega | (rcases hx6 with w | w <;> first | omega | (rw [← w.2] at d6; exact absurd (zc_t d6) (by omega)))
                                · exact hno r2 q2 p2 a b b2 c c2 (by omega))
                            · refine x_iload d_P_isConflict_119 rfl ?_
                              refine x_aload_n d_P_isConflict_121 0 rfl rfl ?_
                              refine x_getc 30 5 36 36 fl_P_17 tk_23_5 (hM.at 0 rfl) rfl rfl d_P_isConflict_122 ?_
                              refine x_iload d_P_isConflict_125 rfl ?_
                              refine x_iald 36 (R 36 q) (hM.at 3 rfl) rfl ⟨by decide, rfl, by decide⟩ rfl (by omega) rfl d_P_isConflict_127 ?_
                              refine x_icmp_ne (tgt := 141) d_P_isConflict_128 rfl (by omega) (by omega) (fun c128 => ?_) (fun c128 => ?_)
                              · refine x_iload d_P_isConflict_141 rfl ?_
                                refine x_bipush d_P_isConflict_143 rfl ?_
                                refine x_icmp_ge (tgt := 160) d_P_isConflict_145 rfl (by omega) (by omega) (fun c145 => ?_) (fun c145 => ?_)
                                · refine x_iinc d_P_isConflict_160 rfl [some (.ref ((σ 30).1)), some (vi s), some (vi r), some (vi (R 44 (55 * s + 5 * r + R 36 r))), some (vi q), some (vi (p + 1)), some (vi (R 44 (((55 * s) + (5 * q)) + p))), some (vi x6)] rfl rfl (lr rfl) ?_
                                  refine x_goto (tgt := 46) d_P_isConflict_163 rfl ?_
                                  refine V.forget 6 [some (.ref ((σ 30).1)), some (vi s), some (vi r), some (vi (R 44 (55 * s + 5 * r + R 36 r))), some (vi q), some (vi (p + 1)), none, some (vi x6)] rfl ?_
                                  refine V.forget 7 [some (.ref ((σ 30).1)), some (vi s), some (vi r), some (vi (R 44 (55 * s + 5 * r + R 36 r))), some (vi q), some (vi (p + 1)), none, none] rfl ?_
                                  exact ihp _ (by omega) (p + 1) rfl (by omega) (fun r2 q2 p2 a b b2 c c2 d => by
                                    by_cases e : r2 = r ∧ q2 = q ∧ p2 = p
                                    · obtain ⟨rfl, rfl, rfl⟩ := e
                                      rintro ⟨d1, d2, ⟨d3, d4⟩ | ⟨d3, d4, d5, d6⟩⟩
                                      · first | exact d1 ⟨by omega, by omega⟩ | omega | exact d4 (by rw [iand_0]) | (rw [c116] at d4; exact d4 (zero_iand _)) | exact d4 c135
                                      · first | exact d1 ⟨by omega, by omega⟩ | omega | (rcases hx6 with w | w <;> first | omega | (rw [← w.2] at d6; exact absurd (zc_t d6) (by omega)))
                                    · exact hno r2 q2 p2 a b b2 c c2 (by omega))
                                · have hx8 := hx6.resolve_right (by omega)
                                  have hx9 := hg.2.2.2.1 q p (by omega) (by omega) (by omega) hx8.1
                                  refine x_iload_n d_P_isConflict_148 3 rfl rfl ?_
                                  refine x_iload d_P_isConflict_149 rfl ?_
                                  refine x_ishr d_P_isConflict_151 (ishr (R 44 (55 * s + 5 * r + R 36 r)) x6) (iI_ishr gs7 (by omega)) ?_
                                  refine x_iconst d_P_isConflict_152 ?_
                                  refine x_iand d_P_isConflict_153 (zc (hb (R 44 (55 * s + 5 * r + R 36 r)) x6)) (iI_bit gs7 (by omega)) ?_
                                  refine x_iconst d_P_isConflict_154 ?_
                                  refine x_icmp_ne (tgt := 160) d_P_isConflict_155 rfl (by have := zc_or (hb (R 44 (55 * s + 5 * r + R 36 r)) x6); omega) (by omega) (fun c155 => ?_) (fun c155 => ?_)
                                  · refine x_iinc d_P_isConflict_160 rfl [some (.ref ((σ 30).1)), some (vi s), some (vi r), some (vi (R 44 (55 * s + 5 * r + R 36 r))), some (vi q), some (vi (p + 1)), some (vi (R 44 (((55 * s) + (5 * q)) + p))), some (vi x6)] rfl rfl (lr rfl) ?_
                                    refine x_goto (tgt := 46) d_P_isConflict_163 rfl ?_
                                    refine V.forget 6 [some (.ref ((σ 30).1)), some (vi s), some (vi r), some (vi (R 44 (55 * s + 5 * r + R 36 r))), some (vi q), some (vi (p + 1)), none, some (vi x6)] rfl ?_
                                    refine V.forget 7 [some (.ref ((σ 30).1)), some (vi s), some (vi r), some (vi (R 44 (55 * s + 5 * r + R 36 r))), some (vi q), some (vi (p + 1)), none, none] rfl ?_
                                    exact ihp _ (by omega) (p + 1) rfl (by omega) (fun r2 q2 p2 a b b2 c c2 d => by
                                      by_cases e : r2 = r ∧ q2 = q ∧ p2 = p
                                      · obtain ⟨rfl, rfl, rfl⟩ := e
                                        rintro ⟨d1, d2, ⟨d3, d4⟩ | ⟨d3, d4, d5, d6⟩⟩
                                        · first | exact d1 ⟨by omega, by omega⟩ | omega | exact d4 (by rw [iand_0]) | (rw [c116] at d4; exact d4 (zero_iand _)) | exact d4 c135
                                        · first | exact d1 ⟨by omega, by omega⟩ | omega | (rcases hx6 with w | w <;> first | omega | (rw [← w.2] at d6; exact absurd (zc_t d6) (by omega)))
                                      · exact hno r2 q2 p2 a b b2 c c2 (by omega))
                                  · refine x_iconst d_P_isConflict_158 ?_
                                    exact x_zret d_P_isConflict_159 rfl (narz (by omega)) (lr rfl) (lr rfl) (⟨by rw [zc_t ((mCf_iff hg (by omega) h7).mp ⟨r, q, p, by omega, by omega, by omega, by omega, by omega, Or.inr ⟨by omega, by omega, by have := hx8.2; omega, by rw [← hx8.2]; exact zc_ne.mp (by omega)⟩⟩)], rfl, rfl⟩)
                              · refine x_iload d_P_isConflict_131 rfl ?_
                                refine x_iload_n d_P_isConflict_133 3 rfl rfl ?_
                                refine x_iand d_P_isConflict_134 (iand (R 44 (55 * s + 5 * q + p)) (R 44 (55 * s + 5 * r + R 36 r))) (iI_iand g8 gs8) ?_
                                refine x_if_eq (tgt := 160) d_P_isConflict_135 rfl (by have w9 := iand_s7 (b := R 44 (55 * s + 5 * r + R 36 r)) g7; have := w9.1; have := w9.2; omega) (fun c135 => ?_) (fun c135 => ?_)
                                · refine x_iinc d_P_isConflict_160 rfl [some (.ref ((σ 30).1)), some (vi s), some (vi r), some (vi (R 44 (55 * s + 5 * r + R 36 r))), some (vi q), some (vi (p + 1)), some (vi (R 44 (((55 * s) + (5 * q)) + p))), some (vi x6)] rfl rfl (lr rfl) ?_
                                  refine x_goto (tgt := 46) d_P_isConflict_163 rfl ?_
                                  refine V.forget 6 [some (.ref ((σ 30).1)), some (vi s), some (vi r), some (vi (R 44 (55 * s + 5 * r + R 36 r))), some (vi q), some (vi (p + 1)), none, some (vi x6)] rfl ?_
                                  refine V.forget 7 [some (.ref ((σ 30).1)), some (vi s), some (vi r), some (vi (R 44 (55 * s + 5 * r + R 36 r))), some (vi q), some (vi (p + 1)), none, none] rfl ?_
                                  exact ihp _ (by omega) (p + 1) rfl (by omega) (fun r2 q2 p2 a b b2 c c2 d => by
                                    by_cases e : r2 = r ∧ q2 = q ∧ p2 = p
                                    · obtain ⟨rfl, rfl, rfl⟩ := e
                                      rintro ⟨d1, d2, ⟨d3, d4⟩ | ⟨d3, d4, d5, d6⟩⟩
                                      · first | exact d1 ⟨by omega, by omega⟩ | omega | exact d4 (by rw [iand_0]) | (rw [c116] at d4; exact d4 (zero_iand _)) | exact d4 c135
                                      · first | exact d1 ⟨by omega, by omega⟩ | omega | (rcases hx6 with w | w <;> first | omega | (rw [← w.2] at d6; exact absurd (zc_t d6) (by omega)))
                                    · exact hno r2 q2 p2 a b b2 c c2 (by omega))
                                · refine x_goto (tgt := 158) d_P_isConflict_138 rfl ?_
                                  refine x_iconst d_P_isConflict_158 ?_
                                  exact x_zret d_P_isConflict_159 rfl (narz (by omega)) (lr rfl) (lr rfl) (⟨by rw [zc_t ((mCf_iff hg (by omega) h7).mp ⟨r, q, p, by omega, by omega, by omega, by omega, by omega, Or.inl ⟨by omega, c135⟩⟩)], rfl, rfl⟩)
                          · refine x_iconst d_P_isConflict_81 ?_
                            refine x_goto (tgt := 102) d_P_isConflict_82 rfl ?_
                            refine x_istore d_P_isConflict_102 [some (.ref ((σ 30).1)), some (vi s), some (vi r), some (vi (R 44 (55 * s + 5 * r + R 36 r))), some (vi q), some (vi p), some (vi 0), none] rfl rfl (lr rfl) ?_
                            refine x_aload_n d_P_isConflict_104 0 rfl rfl ?_
                            refine x_iload d_P_isConflict_105 rfl ?_
                            refine x_iload d_P_isConflict_107 rfl ?_
                            refine x_cvi 30 (As := [vi q, vi p]) (c_P_symbol (R := R) hM q p (by omega) (by omega) f36) cs_P_107 hthis rfl rfl (lr rfl) d_P_isConflict_109 (lr rfl) ⟨lr rfl, lr rfl⟩ ?_
                            refine V.top (fun x6 ex6 => ?_)
                            have hx6 := sy_or ex6
                            have hx7 : -1 ≤ x6 ∧ x6 ≤ 11 := by
                              rcases hx6 with ⟨q1, q2⟩ | ⟨q1, q2⟩
                              · have := hg.2.2.2.1 q p (by omega) (by omega) (by omega) q1; omega
                              · omega
                            refine x_istore d_P_isConflict_112 [some (.ref ((σ 30).1)), some (vi s), some (vi r), some (vi (R 44 (55 * s + 5 * r + R 36 r))), some (vi q), some (vi p), some (vi 0), some (vi x6)] rfl rfl (lr rfl) ?_
                            refine x_iload d_P_isConflict_114 rfl ?_
                            refine x_if_eq (tgt := 160) d_P_isConflict_116 rfl (by omega) (fun c116 => ?_) (fun c116 => ?_)
                            · refine x_iinc d_P_isConflict_160 rfl [some (.ref ((σ 30).1)), some (vi s), some (vi r), some (vi (R 44 (55 * s + 5 * r + R 36 r))), some (vi q), some (vi (p + 1)), some (vi 0), some (vi x6)] rfl rfl (lr rfl) ?_
                              refine x_goto (tgt := 46) d_P_isConflict_163 rfl ?_
                              refine V.forget 6 [some (.ref ((σ 30).1)), some (vi s), some (vi r), some (vi (R 44 (55 * s + 5 * r + R 36 r))), some (vi q), some (vi (p + 1)), none, some (vi x6)] rfl ?_
                              refine V.forget 7 [some (.ref ((σ 30).1)), some (vi s), some (vi r), some (vi (R 44 (55 * s + 5 * r + R 36 r))), some (vi q), some (vi (p + 1)), none, none] rfl ?_
                              exact ihp _ (by omega) (p + 1) rfl (by omega) (fun r2 q2 p2 a b b2 c c2 d => by
                                by_cases e : r2 = r ∧ q2 = q ∧ p2 = p
                                · obtain ⟨rfl, rfl, rfl⟩ := e
                                  rintro ⟨d1, d2, ⟨d3, d4⟩ | ⟨d3, d4, d5, d6⟩⟩
                                  · first | exact d1 ⟨by omega, by omega⟩ | omega | exact d4 (by rw [iand_0]) | (rw [c116] at d4; exact d4 (zero_iand _)) | exact d4 c135
                                  · first | exact d1 ⟨by omega, by omega⟩ | omega | (rcases hx6 with w | w <;> first | omega | (rw [← w.2] at d6; exact absurd (zc_t d6) (by omega)))
                                · exact hno r2 q2 p2 a b b2 c c2 (by omega))
                            · exact absurd rfl c116
                exact hlp _ 0 rfl (by omega) (fun r2 q2 p2 a b b2 c c2 d => hno r2 q2 p2 a b b2 c c2 (by omega))
        exact hlq _ 0 rfl (by omega) (fun r2 q2 p2 a b b2 c c2 d => hno r2 q2 p2 a b b2 c c2 (by omega))
  refine x_iconst d_P_isConflict_0 ?_
  refine x_istore_n d_P_isConflict_1 2 rfl [some (.ref ((σ 30).1)), some (vi s), some (vi 0), none, none, none, none, none] rfl rfl (lr rfl) ?_
  exact hl _ 0 rfl (by omega) (fun r2 q2 p2 a b b2 c c2 d => by omega)
