/-! the model: compile (walk printed by gen/model6.py) -/
def mF (R R1 : xR) : Prop := (∀ a b, ¬ (a = 30 ∧ (b = 0 ∨ b = 12 ∨ b = 22 ∨ b = 23)) → R1 a b = R a b) ∧ R1 30 0 = 0 ∧ R1 30 12 = 0 ∧ R1 30 22 = 0 ∧ R1 30 23 = 0
theorem mF.of {R R1 R2 R3 : xR} (e1 : R1 = xup R 30 0 0) (e2 : R2 = xup R1 30 12 0) (e3 : R3 = xup (xup R2 30 22 0) 30 23 0) : mF R R3 := by
  have e4 : ∃ R4, R4 = xup R2 30 22 0 := ⟨_, rfl⟩
  obtain ⟨R4, e4⟩ := e4
  rw [← e4] at e3
  refine ⟨fun a b h => ?_, ?_, ?_, ?_, ?_⟩
  · rw [xr_up e3 (by omega), xr_up e4 (by omega), xr_up e2 (by omega), xr_up e1 (by omega)]
  · rw [xr_d e3 (by decide), xr_d e4 (by decide), xr_d e2 (by decide), xr_s e1]
  · rw [xr_d e3 (by decide), xr_d e4 (by decide), xr_s e2]
  · rw [xr_d e3 (by decide), xr_s e4]
  · rw [xr_s e3]
theorem mF.gM {R R1 : xR} (h : mF R R1) : gM R1 = gM R := by
  unfold Jvm.Pilot.CRepairDeskLaw_law_r8657_4e7fad.gM
  have e1 : R1 30 3 = R 30 3 := h.1 30 3 (by omega)
  have e2 : R1 35 = R 35 := funext (fun b => h.1 35 b (by omega))
  have e3 : R1 36 = R 36 := funext (fun b => h.1 36 b (by omega))
  have e4 : R1 37 = R 37 := funext (fun b => h.1 37 b (by omega))
  rw [e1, e2, e3, e4]
theorem mF.g0 {R R1 : xR} (hg : mG0 R) (h : mF R R1) : mG0 R1 := by
  unfold mG0
  rw [h.1 30 3 (by omega)]
  refine ⟨hg.1, fun r a b => ?_, fun r k a b c d => ?_⟩
  · rw [h.1 35 r (by omega), h.1 36 r (by omega)]; exact hg.2.1 r a b
  · rw [h.1 36 r (by omega)] at d
    rw [h.1 37 _ (by omega)]; exact hg.2.2 r k a b c d
/-- where compile has come to, its faults and finds emptied -/
def mCq (R R1 : xR) : Prop := (∀ a b, a ∉ [30, 35, 36, 37, 38, 39, 40, 41, 44, 45] → R1 a b = R a b) ∧ (∀ b, b ∉ [0, 11, 12, 22, 23] → R1 30 b = R 30 b) ∧ R1 30 22 = 0 ∧ R1 30 23 = 0 ∧ R1 30 0 = 0 ∧ R1 30 12 = 0
theorem mCq.of {R R1 : xR} (h : mF R R1) : mCq R R1 := ⟨fun a b hab => h.1 a b (fun q => hab (by rw [q.1]; decide)), fun b hb => h.1 30 b (fun q => hb (by rcases q.2 with e | e | e | e <;> (rw [e]; decide))), h.2.2.2.1, h.2.2.2.2, h.2.1, h.2.2.1⟩
theorem mCq.to {R R1 R2 : xR} (h : mCq R R1) (e : ∀ a b, a ∉ [35, 36, 37, 38, 39, 40, 41, 44, 45] → ¬ (a = 30 ∧ b = 11) → R2 a b = R1 a b) : mCq R R2 := by
  obtain ⟨h1, h2, h3, h4, h5, h6⟩ := h
  refine ⟨fun a b hab => ?_, fun b hb => ?_, ?_, ?_, ?_, ?_⟩
  · have : a ≠ 30 := fun q => hab (by rw [q]; decide)
    rw [e a b (fun q => hab (List.mem_cons_of_mem _ q)) (fun q => this q.1)]; exact h1 a b hab
  · rw [e 30 b (by decide) (fun q => hb (by rw [q.2]; decide))]; exact h2 b hb
  · rw [e 30 22 (by decide) (by decide)]; exact h3
  · rw [e 30 23 (by decide) (by decide)]; exact h4
  · rw [e 30 0 (by decide) (by decide)]; exact h5
  · rw [e 30 12 (by decide) (by decide)]; exact h6
theorem mCq.fail {R R1 R2 : xR} {n z : Int} (h : mCq R R1) (e : R2 = xup R1 30 0 n) (h7 : ∀ i, 0 ≤ i → i < 2310 → s7 (R1 44 i))
    (hc : (R 30 3 = 0 ∧ n = 1 ∧ gM R1 = gM R) ∨ (R 30 3 ≠ 0 ∧ ¬ gCm (gM R) (R 35 0) ∧ n = 2 ∧ gM R1 = gM R) ∨ (R 30 3 ≠ 0 ∧ gCm (gM R) (R 35 0) ∧ n = 2 ∧ gM R1 = gP (gM R) ∧ ∃ a, auF (gP (gM R)) a ∧ auBad (gP (gM R)) a)) : mCp R R2 z := by
  obtain ⟨h1, h2, h3, h4, h5, h6⟩ := h
  have eg : gM R2 = gM R1 := by
    unfold gM
    have e1 : R2 30 3 = R1 30 3 := xr_d e (by decide)
    have e2 : R2 35 = R1 35 := funext (fun b => xr_o e (by decide))
    have e3 : R2 36 = R1 36 := funext (fun b => xr_o e (by decide))
    have e4 : R2 37 = R1 37 := funext (fun b => xr_o e (by decide))
    rw [e1, e2, e3, e4]
  refine ⟨fun a b hab => ?_, fun b hb => ?_, fun i a b => by rw [xr_o e (by decide)]; exact h7 i a b, by rw [xr_d e (by decide)]; exact h3, by rw [xr_d e (by decide)]; exact h4, ?_⟩
  · rw [xr_o e (fun q => hab (by rw [q]; decide))]; exact h1 a b hab
  · rw [xr_d e (fun q => hb (by rw [q]; decide))]; exact h2 b hb
  · have e12 : R2 30 12 = R1 30 12 := xr_d e (by decide)
    have e0 : R2 30 0 = n := xr_s e
    rw [e12, e0, eg]
    rcases hc with ⟨c1, c2, c3⟩ | ⟨c1, c2, c3, c4⟩ | ⟨c1, c2, c3, c4, a, c5, c6⟩
    · exact Or.inl ⟨c1, c2, h6, c3⟩
    · exact Or.inr (Or.inl ⟨c1, c2, c3, h6, c4⟩)
    · exact Or.inr (Or.inr ⟨c1, c2, c4, a, c5, Or.inl ⟨c6, c3, h6⟩⟩)
theorem mCq.good {R R1 R2 : xR} {a : auT} (h : mCq R R1) (e : R2 = xup R1 30 12 a.1) (h7 : ∀ i, 0 ≤ i → i < 2310 → s7 (R1 44 i)) (hg : mGr R1) (hn : R 30 3 ≠ 0) (hc : gCm (gM R) (R 35 0)) (eg : gM R1 = gP (gM R)) (hf : auF (gP (gM R)) a) (hb : ¬ auBad (gP (gM R)) a) (hau : mAu R1 a (12 * a.1)) : mCp R R2 a.1 := by
  obtain ⟨h1, h2, h3, h4, h5, h6⟩ := h
  have eg2 : gM R2 = gM R1 := by
    unfold gM
    have e1 : R2 30 3 = R1 30 3 := xr_d e (by decide)
    have e2 : R2 35 = R1 35 := funext (fun b => xr_o e (by decide))
    have e3 : R2 36 = R1 36 := funext (fun b => xr_o e (by decide))
    have e4 : R2 37 = R1 37 := funext (fun b => xr_o e (by decide))
    rw [e1, e2, e3, e4]
  refine ⟨fun a b hab => ?_, fun b hb => ?_, fun i a b => by rw [xr_o e (by decide)]; exact h7 i a b, by rw [xr_d e (by decide)]; exact h3, by rw [xr_d e (by decide)]; exact h4, Or.inr (Or.inr ⟨hn, hc, eg2.trans eg, a, hf, Or.inr ⟨by rw [xr_d e (by decide)]; exact h5, rfl, ?_⟩⟩)⟩
  · rw [xr_o e (fun q => hab (by rw [q]; decide))]; exact h1 a b hab
  · rw [xr_d e (fun q => hb (by rw [q]; decide))]; exact h2 b hb
  · refine ⟨?_, by rw [eg2, eg]; exact hf, by rw [eg2, eg]; exact hb, xr_s e, fun k p q => ?_, fun i p q => ?_⟩
    · obtain ⟨g1, g2, g3, g4, g5, g6, g7, g8⟩ := hg
      unfold mGr
      rw [xr_d e (by decide), xr_o e (by decide), xr_o e (by decide), xr_o e (by decide), xr_o e (by decide)]
      exact ⟨g1, fun r a b => by rw [xr_o e (by decide)]; exact g2 r a b, fun r a b => by rw [xr_o e (by decide)]; exact g3 r a b, fun r k a b c d => by rw [xr_o e (by decide)] at d; rw [xr_o e (by decide)]; exact g4 r k a b c d, g5, g6, g7, fun r a b => by rw [xr_o e (by decide)]; exact g8 r a b⟩
    · rw [mIt_same e]; exact hau.2.1 k p q
    · rw [xr_o e (by decide)]; exact hau.2.2 i p q
theorem gM_up {R R1 : xR} {b z : Int} (h : R1 = xup R 30 b z) (hb : b ≠ 3) : gM R1 = gM R := by
  unfold gM
  have e1 : R1 30 3 = R 30 3 := xr_d h (fun q => hb q.symm)
  have e2 : R1 35 = R 35 := funext (fun b => xr_o h (by decide))
  have e3 : R1 36 = R 36 := funext (fun b => xr_o h (by decide))
  have e4 : R1 37 = R 37 := funext (fun b => xr_o h (by decide))
  rw [e1, e2, e3, e4]
theorem auR_mono {g : xGr} {c : Nat} {a b : auT} (h1 : auR g c a) (h2 : auR g (c + 1) b) : a.1 ≤ b.1 := by
  obtain ⟨a', h3, -, h4⟩ := h2
  have := auR.fun c h1 h3
  subst this
  rcases h4 with ⟨-, rfl⟩ | ⟨-, q, -, -, -, rfl⟩ | ⟨-, -, rfl⟩
  · exact Int.le_refl _
  · exact Int.le_refl _
  · show a.1 ≤ a.1 + 1
    omega
theorem zcb_step {p : Prop} {q : Int → Prop} {b k : Int} (h : b = zc (p ∨ ∃ j, 0 ≤ j ∧ j < k ∧ q j)) (h0 : b = 0 ∧ 0 ≤ k) : zc (q k) = zc (p ∨ ∃ j, 0 ≤ j ∧ j < k + 1 ∧ q j) := by
  have h1 := zc_eq0.mp (h ▸ h0.1)
  refine zc_iff ⟨fun w => Or.inr ⟨k, h0.2, by omega, w⟩, fun w => ?_⟩
  rcases w with w | ⟨j, w1, w2, w3⟩
  · exact absurd (Or.inl w) h1
  · by_cases e : j = k
    · rw [← e]; exact w3
    · exact absurd (Or.inr ⟨j, w1, by omega, w3⟩) h1
set_option maxHeartbeats 4000000 in
set_option maxRecDepth 100000 in
theorem c_P_compile {σ : xS} {R : xR} (hM : xsh σ mshape) (hg : mG0 R) (h7 : ∀ i, 0 ≤ i → i < 2310 → s7 (R 44 i)) : Ct m_P_compile 4 0 0 [.ref (σ 30).1] σ R (Zm σ (fun z R1 => mCp R R1 z)) := by
  refine Ct.of [some (.ref ((σ 30).1)), none, none, none] rfl (by decide +kernel) (lr rfl) (fun X => ?_)
  have hthis := thisM hM
  have hn10 := hg.1
  refine x_aload_n d_P_compile_0 0 rfl rfl ?_
  refine x_iconst d_P_compile_1 ?_
  refine x_puti 30 0 0 fp_P_66 tk_23_0 (hM.at 0 rfl) rfl rfl d_P_compile_2 (fun Q1 hQ1 => ?_)
  refine x_aload_n d_P_compile_5 0 rfl rfl ?_
  refine x_iconst d_P_compile_6 ?_
  refine x_puti 30 12 12 fp_P_93 tk_23_12 (hM.at 0 rfl) rfl rfl d_P_compile_7 (fun Q2 hQ2 => ?_)
  refine x_aload_n d_P_compile_10 0 rfl rfl ?_
  refine x_cvv 30 (As := []) (c_P_forget (R := Q2) hM) cs_P_96 hthis rfl rfl (lr rfl) d_P_compile_11 (lr rfl) ⟨lr rfl, lr rfl⟩ (fun Q3 hQ3 => ?_)
  have hf := mF.of hQ1 hQ2 hQ3
  have hg3 := hf.g0 hg
  refine x_aload_n d_P_compile_14 0 rfl rfl ?_
  refine x_geti 30 3 3 (R 30 3) fl_P_90 tk_23_3 (hM.at 0 rfl) rfl rfl (hf.1 30 3 (by omega)) d_P_compile_15 ?_
  refine x_if_ne (tgt := 27) d_P_compile_18 rfl (by omega) (fun c18 => ?_) (fun c18 => ?_)
  · refine x_aload_n d_P_compile_27 0 rfl rfl ?_
    refine x_cvv 30 (As := []) (c_P_prepare (R := Q3) hM hg3) cs_P_122 hthis rfl rfl (lr rfl) d_P_compile_28 (lr rfl) ⟨lr rfl, lr rfl⟩ (fun Q4 hQ4 => ?_)
    obtain ⟨R4, hR4⟩ : ∃ z, z = Q4 := ⟨_, rfl⟩
    rw [← hR4] at hQ4 ⊢
    obtain ⟨hp4, hk4, hc4⟩ := hQ4
    have hg4 := hk4.g0 hg3
    have en4 : R4 30 3 = R 30 3 := (hk4 30 3 (by decide)).trans (hf.1 30 3 (by omega))
    have h74 : ∀ i, 0 ≤ i → i < 2310 → s7 (R4 44 i) := fun i a b => by rw [hk4 44 i (by decide), hf.1 44 i (by omega)]; exact h7 i a b
    have hcq4 : mCq R R4 := (mCq.of hf).to (fun a b c d => hk4 a b (by
      simp only [List.mem_cons, List.not_mem_nil, or_false, not_or] at c
      omega))
    have gl0 := (hg.2.1 0 (by omega) (by omega)).1
    have e350 : R4 35 0 = R 35 0 := (hk4 35 0 (by decide)).trans (hf.1 35 0 (by omega))
    have ec : R4 39 (R 35 0) = zc (gCm (gM R) (R 35 0)) := by rw [hc4 (R 35 0) gl0.1 gl0.2, hf.gM]
    refine x_aload_n d_P_compile_31 0 rfl rfl ?_
    refine x_getc 30 8 39 39 fl_P_27 tk_23_8 (hM.at 0 rfl) rfl rfl d_P_compile_32 ?_
    refine x_aload_n d_P_compile_35 0 rfl rfl ?_
    refine x_getc 30 4 35 35 fl_P_13 tk_23_4 (hM.at 0 rfl) rfl rfl d_P_compile_36 ?_
    refine x_iconst d_P_compile_39 ?_
    refine x_iald 35 (R 35 0) (hM.at 2 rfl) rfl ⟨by decide, rfl, by decide⟩ rfl (by omega) e350 d_P_compile_40 ?_
    refine x_zald 39 (zc (gCm (gM R) (R 35 0))) (hM.at 6 rfl) rfl ⟨by decide, rfl, by decide⟩ rfl (by omega) ec d_P_compile_41 ?_
    refine x_if_ne (tgt := 51) d_P_compile_42 rfl (by have := zc_or (gCm (gM R) (R 35 0)); omega) (fun c42 => ?_) (fun c42 => ?_)
    · have hn0 : R 30 3 ≠ 0 := c18
      have hcm := zc_ne.mp c42
      refine x_aload_n d_P_compile_51 0 rfl rfl ?_
      refine x_getc 30 4 35 35 fl_P_13 tk_23_4 (hM.at 0 rfl) rfl rfl d_P_compile_52 ?_
      refine x_bipush d_P_compile_55 rfl ?_
      refine x_bipush d_P_compile_57 rfl ?_
      refine x_iast 35 (hM.at 2 rfl) rfl ⟨by decide, rfl, by decide⟩ rfl (by omega) d_P_compile_59 (fun Q5 hQ5 => ?_)
      refine x_aload_n d_P_compile_60 0 rfl rfl ?_
      refine x_getc 30 5 36 36 fl_P_17 tk_23_5 (hM.at 0 rfl) rfl rfl d_P_compile_61 ?_
      refine x_bipush d_P_compile_64 rfl ?_
      refine x_iconst d_P_compile_66 ?_
      refine x_iast 36 (hM.at 3 rfl) rfl ⟨by decide, rfl, by decide⟩ rfl (by omega) d_P_compile_67 (fun Q6 hQ6 => ?_)
      refine x_aload_n d_P_compile_68 0 rfl rfl ?_
      refine x_getc 30 6 37 37 fl_P_20 tk_23_6 (hM.at 0 rfl) rfl rfl d_P_compile_69 ?_
      refine x_bipush d_P_compile_72 rfl ?_
      refine x_bipush d_P_compile_74 rfl ?_
      refine x_aload_n d_P_compile_76 0 rfl rfl ?_
      refine x_getc 30 4 35 35 fl_P_13 tk_23_4 (hM.at 0 rfl) rfl rfl d_P_compile_77 ?_
      refine x_iconst d_P_compile_80 ?_
      refine x_iald 35 (R4 35 0) (hM.at 2 rfl) rfl ⟨by decide, rfl, by decide⟩ rfl (by omega) ((xr_o hQ6 (by decide)).trans (xr_d hQ5 (by decide))) d_P_compile_81 ?_
      refine x_iadd d_P_compile_82 ?_
      refine x_iast 37 (hM.at 4 rfl) rfl ⟨by decide, rfl, by decide⟩ rfl (by omega) d_P_compile_83 (fun Q7 hQ7 => ?_)
      refine x_aload_n d_P_compile_84 0 rfl rfl ?_
      refine x_getc 30 7 38 38 fl_P_23 tk_23_7 (hM.at 0 rfl) rfl rfl d_P_compile_85 ?_
      refine x_bipush d_P_compile_88 rfl ?_
      refine x_iconst d_P_compile_90 ?_
      refine x_zast 38 (hM.at 5 rfl) rfl ⟨by decide, rfl, by decide⟩ rfl (by omega) (narz (by omega)) d_P_compile_91 (fun Q8 hQ8 => ?_)
      refine x_aload_n d_P_compile_92 0 rfl rfl ?_
      refine x_geti 30 3 3 (R4 30 3) fl_P_90 tk_23_3 (hM.at 0 rfl) rfl rfl ((xr_o hQ8 (by decide)).trans ((xr_o hQ7 (by decide)).trans ((xr_o hQ6 (by decide)).trans (xr_o hQ5 (by decide))))) d_P_compile_93 ?_
      refine x_istore_n d_P_compile_96 1 rfl [some (.ref ((σ 30).1)), some (vi (R4 30 3)), none, none] rfl rfl (lr rfl) ?_
      have hpt0 := mPt.zero (R := R4) (by omega) hQ5 hQ6 hQ7 hQ8
      have hll : ∀ (m : Nat) (r : Int) (R5 : xR), (10 - r).toNat = m → (R4 30 3 ≤ r ∧ r ≤ 10) → (mPt R4 R5 r) → V X m_P_compile (4, 0, 0, Zm σ (fun z R1 => mCp R R1 z)) σ R5 0 0 97 [some (.ref ((σ 30).1)), some (vi r), none, none] [] := by
        intro m
        induction m using Nat.strongRecOn with
        | _ m ihl =>
          intro r R5 hml hr1 hpt
          refine x_iload_n d_P_compile_97 1 rfl rfl ?_
          refine x_bipush d_P_compile_98 rfl ?_
          refine x_icmp_ge (tgt := 116) d_P_compile_100 rfl (by omega) (by omega) (fun c100 => ?_) (fun c100 => ?_)
          · refine x_iconst d_P_compile_116 ?_
            refine x_istore_n d_P_compile_117 1 rfl [some (.ref ((σ 30).1)), some (vi 0), none, none] rfl rfl (lr rfl) ?_
            have er : r = 10 := by omega
            subst er
            have hg5 := hpt.gr hg4 (by rw [en4]; omega)
            have hp5 := hpt.pr hg4 hp4
            have h75 : ∀ i, 0 ≤ i → i < 2310 → s7 (R5 44 i) := fun i a b => by rw [hpt.1 44 i (by decide) (by decide) (by decide) (by omega)]; exact h74 i a b
            have hcq5 : mCq R R5 := hcq4.to (fun a b c d => hpt.1 a b (fun z => c (by rw [z]; decide)) (fun z => c (by rw [z]; decide)) (fun z => c (by rw [z]; decide)) (fun z => c (by rw [z.1]; decide)))
            have hlc : ∀ (m : Nat) (k : Int) (R6 : xR), (55 - k).toNat = m → (0 ≤ k ∧ k ≤ 55) → (mC0 R5 R6 0 k) → V X m_P_compile (4, 0, 0, Zm σ (fun z R1 => mCp R R1 z)) σ R6 0 0 118 [some (.ref ((σ 30).1)), some (vi k), none, none] [] := by
              intro m
              induction m using Nat.strongRecOn with
              | _ m ihc =>
                intro k R6 hmc hk1 hc0
                refine x_iload_n d_P_compile_118 1 rfl rfl ?_
                refine x_bipush d_P_compile_119 rfl ?_
                refine x_icmp_ge (tgt := 137) d_P_compile_121 rfl (by omega) (by omega) (fun c121 => ?_) (fun c121 => ?_)
                · have ek55 : k = 55 := by omega
                  subst ek55
                  refine x_aload_n d_P_compile_137 0 rfl rfl ?_
                  refine x_getc 30 13 44 44 fl_P_36 tk_23_13 (hM.at 0 rfl) rfl rfl d_P_compile_138 ?_
                  refine x_bipush d_P_compile_141 rfl ?_
                  refine x_bipush d_P_compile_143 rfl ?_
                  refine x_iast 44 (hM.at 9 rfl) rfl ⟨by decide, rfl, by decide⟩ rfl (by omega) d_P_compile_145 (fun Q1 hQ1 => ?_)
                  have hf50 := hQ1
                  refine x_aload_n d_P_compile_146 0 rfl rfl ?_
                  refine x_iconst d_P_compile_147 ?_
                  have h750 : ∀ i, 0 ≤ i → i < 2310 → s7 (Q1 44 i) := fun i a b => by
                    by_cases e : i = 50
                    · rw [e, xr_s hf50]; exact ⟨by omega, by omega⟩
                    · rw [xr_d hf50 e]
                      by_cases e2 : i < 55
                      · have := hc0.2.2 i a (by omega); rw [show 55 * 0 + i = i by omega] at this; rw [this]; exact ⟨by omega, by omega⟩
                      · rw [hc0.2.1 i (by omega)]; exact h75 i a b
                  refine x_cvv 30 (As := [vi 0]) (c_P_close (R := Q1) hM ((hg5.moved hc0.1).moved (fun a b c => xr_o hf50 c)) ((hp5.moved hc0.1).moved (fun a b c => xr_o hf50 c)) 0 (by omega) h750) cs_P_118 hthis rfl rfl (lr rfl) d_P_compile_148 (lr rfl) ⟨lr rfl, lr rfl⟩ (fun Q2 hQ2 => ?_)
                  refine x_aload_n d_P_compile_151 0 rfl rfl ?_
                  refine x_iconst d_P_compile_152 ?_
                  refine x_puti 30 11 11 fp_P_115 tk_23_11 (hM.at 0 rfl) rfl rfl d_P_compile_153 (fun Q3 hQ3 => ?_)
                  refine x_iconst d_P_compile_156 ?_
                  refine x_istore_n d_P_compile_157 1 rfl [some (.ref ((σ 30).1)), some (vi 0), none, none] rfl rfl (lr rfl) ?_
                  obtain ⟨RB, hRB⟩ : ∃ z, z = Q3 := ⟨_, rfl⟩
                  rw [← hRB] at hQ3 ⊢
                  have hclo := hQ2
                  have hIt0 : mIt RB 0 = gCl (gM RB) gA0 := by
                    rw [mIt_same hQ3, hclo.2.2.2]
                    rw [mIt_start (fun i a b c => by rw [xr_d hf50 (by omega)]; exact hc0.2.2 i a (by omega)) (xr_s hf50)]
                    congr 1
                    rw [show gM RB = gM Q2 from gM_up hQ3 (by decide), gM_eq hclo.1]
                  have egR : gM RB = gM R6 := by rw [show gM RB = gM Q2 from gM_up hQ3 (by decide), gM_eq hclo.1]; exact gM_eq (fun a b c => xr_o hf50 c)
                  have e6 : gM R6 = gM R5 := gM_eq hc0.1
                  have egB : gM RB = gP (gM R) := by rw [egR, e6, hpt.gM, hk4.gM, hf.gM]
                  have hgB : mGr RB := mKs.gr (R := R6) (hg5.moved hc0.1) (fun a b c d e => by rw [xr_up hQ3 e, hclo.1 a b c, xr_o hf50 c])
                  have hpB : mPr RB := mKs.pr (R := R6) (hp5.moved hc0.1) (fun a b c d e => by rw [xr_up hQ3 e, hclo.1 a b c, xr_o hf50 c])
                  have hcqB : mCq R RB := hcq5.to (fun a b c d => by rw [xr_up hQ3 d, hclo.1 a b (fun z => c (by rw [z]; decide)), xr_o hf50 (fun z => c (by rw [z]; decide)), hc0.1 a b (fun z => c (by rw [z]; decide))])
                  have h7B : ∀ i, 0 ≤ i → i < 2310 → s7 (RB 44 i) := fun i a b => by rw [xr_o hQ3 (by decide)]; exact hclo.2.2.1 i a b
                  have hmono : ∀ {c : Nat} {a b : auT} (P1 : auR (gM RB) c a) (P2 : auR (gM RB) (c + 1) b), a.1 ≤ b.1 := fun {c a b} P1 P2 => auR_mono P1 P2
                  have hls : ∀ (m : Nat) (s : Int) (c : Nat) (a : auT) (R2 : xR), (42 - s).toNat = m → (0 ≤ s ∧ s ≤ 41) → (auR (gM RB) c a) → (mAu R2 a c) → ((c : Int) = 12 * s ∨ 40 < a.1) → (mKs RB R2) → (∀ i, 0 ≤ i → i < 2310 → s7 (R2 44 i)) → V X m_P_compile (4, 0, 0, Zm σ (fun z R1 => mCp R R1 z)) σ R2 0 0 158 [some (.ref ((σ 30).1)), some (vi s), none, none] [] := by
                    intro m
                    induction m using Nat.strongRecOn with
                    | _ m ihs =>
                      intro s c a R2 hms hs1 har hau hsc hks h72
                      have hcq : mCq R R2 := hcqB.to (fun p1 p2 p3 p4 => hks p1 p2 (fun q => p3 (by rw [q]; decide)) (fun q => p3 (by rw [q]; decide)) p4)
                      have hinv0 := auR.inv _ har
                      refine x_iload_n d_P_compile_158 1 rfl rfl ?_
                      refine x_aload_n d_P_compile_159 0 rfl rfl ?_
                      refine x_geti 30 11 11 a.1 fl_P_115 tk_23_11 (hM.at 0 rfl) rfl rfl hau.1 d_P_compile_160 ?_
                      refine x_icmp_ge (tgt := 223) d_P_compile_163 rfl (by omega) (by omega) (fun c163 => ?_) (fun c163 => ?_)
                      · refine x_aload_n d_P_compile_223 0 rfl rfl ?_
                        refine x_geti 30 11 11 a.1 fl_P_115 tk_23_11 (hM.at 0 rfl) rfl rfl hau.1 d_P_compile_224 ?_
                        refine x_bipush d_P_compile_227 rfl ?_
                        refine x_icmp_le (tgt := 236) d_P_compile_229 rfl (by omega) (by omega) (fun c229 => ?_) (fun c229 => ?_)
                        · refine x_iconst d_P_compile_236 ?_
                          refine x_istore_n d_P_compile_237 1 rfl [some (.ref ((σ 30).1)), some (vi 0), none, none] rfl rfl (lr rfl) ?_
                          refine x_iconst d_P_compile_238 ?_
                          refine x_istore_n d_P_compile_239 2 rfl [some (.ref ((σ 30).1)), some (vi 0), some (vi 0), none] rfl rfl (lr rfl) ?_
                          have hfin : auF (gM RB) a := ⟨c, har, by omega⟩
                          have hlast : ¬ 40 < a.1 → 12 * a.1 ≤ (c : Int) := fun q => by omega
                          have hlk : ∀ (m : Nat) (k : Int) (badk : Int), (41 - k).toNat = m → (0 ≤ k ∧ k ≤ a.1) → (badk = zc (40 < a.1 ∨ ∃ j, 0 ≤ j ∧ j < k ∧ gCf (gM RB) (a.2.1 j))) → V X m_P_compile (4, 0, 0, Zm σ (fun z R1 => mCp R R1 z)) σ R2 0 0 240 [some (.ref ((σ 30).1)), some (vi badk), some (vi k), none] [] := by
                            intro m
                            induction m using Nat.strongRecOn with
                            | _ m ihk =>
                              intro k badk hmk hk1 hbad
                              refine x_iload_n d_P_compile_240 2 rfl rfl ?_
                              refine x_aload_n d_P_compile_241 0 rfl rfl ?_
                              refine x_geti 30 11 11 a.1 fl_P_115 tk_23_11 (hM.at 0 rfl) rfl rfl hau.1 d_P_compile_242 ?_
                              refine x_icmp_ge (tgt := 264) d_P_compile_245 rfl (by omega) (by omega) (fun c245 => ?_) (fun c245 => ?_)
                              · have hbd : badk ≠ 0 ↔ auBad (gM RB) a := by
                                  rw [hbad, zc_ne]
                                  exact ⟨fun q => q.elim Or.inl (fun ⟨j, q1, q2, q3⟩ => Or.inr ⟨j, q1, by omega, q3⟩), fun q => q.elim Or.inl (fun ⟨j, q1, q2, q3⟩ => by first | exact Or.inr ⟨j, q1, by omega, q3⟩ | exact (zc_ne.mp (show zc (40 < a.1 ∨ ∃ j, 0 ≤ j ∧ j < k ∧ gCf (gM RB) (a.2.1 j)) ≠ 0 from hbad ▸ c249)))⟩
                                have h7x := h72
                                refine x_iload_n d_P_compile_264 1 rfl rfl ?_
                                refine x_if_eq (tgt := 274) d_P_compile_265 rfl (by have := zc_or (40 < a.1 ∨ ∃ j, 0 ≤ j ∧ j < k ∧ gCf (gM RB) (a.2.1 j)); rw [← hbad] at this; omega) (fun c265 => ?_) (fun c265 => ?_)
                                · refine x_aload_n d_P_compile_274 0 rfl rfl ?_
                                  refine x_aload_n d_P_compile_275 0 rfl rfl ?_
                                  refine x_geti 30 11 11 a.1 fl_P_115 tk_23_11 (hM.at 0 rfl) rfl rfl hau.1 d_P_compile_276 ?_
                                  refine x_puti 30 12 12 fp_P_93 tk_23_12 (hM.at 0 rfl) rfl rfl d_P_compile_279 (fun Q1 hQ1 => ?_)
                                  refine x_aload_n d_P_compile_282 0 rfl rfl ?_
                                  refine x_geti 30 12 12 a.1 fl_P_93 tk_23_12 (hM.at 0 rfl) rfl rfl (xr_s hQ1) d_P_compile_283 ?_
                                  exact x_iret d_P_compile_286 rfl (lr rfl) (lr rfl) (⟨_, rfl, rfl, hcq.good hQ1 h72 (hks.gr hgB) hn0 hcm (hks.gM.trans egB) (egB ▸ hfin) (fun q => hbd.mpr (egB.symm ▸ q) c265) ⟨hau.1, hau.2.1, fun i p q => hau.2.2 i p (by have := hlast (fun q2 => hbd.mpr (Or.inl q2) c265); omega)⟩⟩)
                                · refine x_aload_n d_P_compile_268 0 rfl rfl ?_
                                  refine x_iconst d_P_compile_269 ?_
                                  refine x_cvm 30 (As := [vi 2]) (c_P_fails (R := R2) hM 2) cs_P_86 hthis rfl rfl (lr rfl) d_P_compile_270 (lr rfl) ⟨lr rfl, lr rfl⟩ (fun z2 Q3 hQ3 => ?_)
                                  exact x_iret d_P_compile_273 rfl (lr rfl) (lr rfl) (⟨_, rfl, rfl, hcq.fail hQ3.2 h7x (Or.inr (Or.inr ⟨hn0, hcm, rfl, hks.gM.trans egB, a, egB ▸ hfin, egB ▸ hbd.mp c265⟩))⟩)
                              · refine x_iload_n d_P_compile_248 1 rfl rfl ?_
                                refine x_if_ne (tgt := 264) d_P_compile_249 rfl (by have := zc_or (40 < a.1 ∨ ∃ j, 0 ≤ j ∧ j < k ∧ gCf (gM RB) (a.2.1 j)); rw [← hbad] at this; omega) (fun c249 => ?_) (fun c249 => ?_)
                                · have hbd : badk ≠ 0 ↔ auBad (gM RB) a := by
                                    rw [hbad, zc_ne]
                                    exact ⟨fun q => q.elim Or.inl (fun ⟨j, q1, q2, q3⟩ => Or.inr ⟨j, q1, by omega, q3⟩), fun q => q.elim Or.inl (fun ⟨j, q1, q2, q3⟩ => by first | exact Or.inr ⟨j, q1, by omega, q3⟩ | exact (zc_ne.mp (show zc (40 < a.1 ∨ ∃ j, 0 ≤ j ∧ j < k ∧ gCf (gM RB) (a.2.1 j)) ≠ 0 from hbad ▸ c249)))⟩
                                  have h7x := h72
                                  refine x_iload_n d_P_compile_264 1 rfl rfl ?_
                                  refine x_if_eq (tgt := 274) d_P_compile_265 rfl (by have := zc_or (40 < a.1 ∨ ∃ j, 0 ≤ j ∧ j < k ∧ gCf (gM RB) (a.2.1 j)); rw [← hbad] at this; omega) (fun c265 => ?_) (fun c265 => ?_)
                                  · refine x_aload_n d_P_compile_274 0 rfl rfl ?_
                                    refine x_aload_n d_P_compile_275 0 rfl rfl ?_
                                    refine x_geti 30 11 11 a.1 fl_P_115 tk_23_11 (hM.at 0 rfl) rfl rfl hau.1 d_P_compile_276 ?_
                                    refine x_puti 30 12 12 fp_P_93 tk_23_12 (hM.at 0 rfl) rfl rfl d_P_compile_279 (fun Q4 hQ4 => ?_)
                                    refine x_aload_n d_P_compile_282 0 rfl rfl ?_
                                    refine x_geti 30 12 12 a.1 fl_P_93 tk_23_12 (hM.at 0 rfl) rfl rfl (xr_s hQ4) d_P_compile_283 ?_
                                    exact x_iret d_P_compile_286 rfl (lr rfl) (lr rfl) (⟨_, rfl, rfl, hcq.good hQ4 h72 (hks.gr hgB) hn0 hcm (hks.gM.trans egB) (egB ▸ hfin) (fun q => hbd.mpr (egB.symm ▸ q) c265) ⟨hau.1, hau.2.1, fun i p q => hau.2.2 i p (by have := hlast (fun q2 => hbd.mpr (Or.inl q2) c265); omega)⟩⟩)
                                  · refine x_aload_n d_P_compile_268 0 rfl rfl ?_
                                    refine x_iconst d_P_compile_269 ?_
                                    refine x_cvm 30 (As := [vi 2]) (c_P_fails (R := R2) hM 2) cs_P_86 hthis rfl rfl (lr rfl) d_P_compile_270 (lr rfl) ⟨lr rfl, lr rfl⟩ (fun z5 Q6 hQ6 => ?_)
                                    exact x_iret d_P_compile_273 rfl (lr rfl) (lr rfl) (⟨_, rfl, rfl, hcq.fail hQ6.2 h7x (Or.inr (Or.inr ⟨hn0, hcm, rfl, hks.gM.trans egB, a, egB ▸ hfin, egB ▸ hbd.mp c265⟩))⟩)
                                · refine x_aload_n d_P_compile_252 0 rfl rfl ?_
                                  refine x_iload_n d_P_compile_253 2 rfl rfl ?_
                                  have hb0 : badk = 0 := by omega
                                  have hle40 : a.1 ≤ 40 := Classical.byContradiction (fun q => zc_eq0.mp (hbad ▸ hb0) (Or.inl (by omega)))
                                  refine x_cvi 30 (As := [vi k]) (c_P_isConflict (R := R2) hM (hks.gr hgB) h72 k (by omega)) cs_P_128 hthis rfl rfl (lr rfl) d_P_compile_254 (lr rfl) ⟨lr rfl, lr rfl⟩ ?_
                                  refine x_istore_n d_P_compile_257 1 rfl [some (.ref ((σ 30).1)), some (vi (zc (gCf (gM R2) (mIt R2 k)))), some (vi k), none] rfl rfl (lr rfl) ?_
                                  refine x_iinc d_P_compile_258 rfl [some (.ref ((σ 30).1)), some (vi (zc (gCf (gM R2) (mIt R2 k)))), some (vi (k + 1)), none] rfl rfl (lr rfl) ?_
                                  refine x_goto (tgt := 240) d_P_compile_261 rfl ?_
                                  exact ihk _ (by omega) (k + 1) (zc (gCf (gM R2) (mIt R2 k))) rfl (by omega) (by rw [hks.gM, hau.2.1 k (by omega) (by omega)]; exact zcb_step hbad (by omega))
                          exact hlk _ 0 0 rfl (by omega) ((zc_f (fun q => q.elim (fun q1 => by omega) (fun ⟨j, q1, q2, _⟩ => by omega))).symm)
                        · refine x_iconst d_P_compile_232 ?_
                          refine x_goto (tgt := 237) d_P_compile_233 rfl ?_
                          refine x_istore_n d_P_compile_237 1 rfl [some (.ref ((σ 30).1)), some (vi 1), none, none] rfl rfl (lr rfl) ?_
                          refine x_iconst d_P_compile_238 ?_
                          refine x_istore_n d_P_compile_239 2 rfl [some (.ref ((σ 30).1)), some (vi 1), some (vi 0), none] rfl rfl (lr rfl) ?_
                          have hfin : auF (gM RB) a := ⟨c, har, by omega⟩
                          have hlast : ¬ 40 < a.1 → 12 * a.1 ≤ (c : Int) := fun q => by omega
                          have hlk : ∀ (m : Nat) (k : Int) (badk : Int), (41 - k).toNat = m → (0 ≤ k ∧ k ≤ a.1) → (badk = zc (40 < a.1 ∨ ∃ j, 0 ≤ j ∧ j < k ∧ gCf (gM RB) (a.2.1 j))) → V X m_P_compile (4, 0, 0, Zm σ (fun z R1 => mCp R R1 z)) σ R2 0 0 240 [some (.ref ((σ 30).1)), some (vi badk), some (vi k), none] [] := by
                            intro m
                            induction m using Nat.strongRecOn with
                            | _ m ihk =>
                              intro k badk hmk hk1 hbad
                              refine x_iload_n d_P_compile_240 2 rfl rfl ?_
                              refine x_aload_n d_P_compile_241 0 rfl rfl ?_
                              refine x_geti 30 11 11 a.1 fl_P_115 tk_23_11 (hM.at 0 rfl) rfl rfl hau.1 d_P_compile_242 ?_
                              refine x_icmp_ge (tgt := 264) d_P_compile_245 rfl (by omega) (by omega) (fun c245 => ?_) (fun c245 => ?_)
                              · have hbd : badk ≠ 0 ↔ auBad (gM RB) a := by
                                  rw [hbad, zc_ne]
                                  exact ⟨fun q => q.elim Or.inl (fun ⟨j, q1, q2, q3⟩ => Or.inr ⟨j, q1, by omega, q3⟩), fun q => q.elim Or.inl (fun ⟨j, q1, q2, q3⟩ => by first | exact Or.inr ⟨j, q1, by omega, q3⟩ | exact (zc_ne.mp (show zc (40 < a.1 ∨ ∃ j, 0 ≤ j ∧ j < k ∧ gCf (gM RB) (a.2.1 j)) ≠ 0 from hbad ▸ c249)))⟩
                                have h7x := h72
                                refine x_iload_n d_P_compile_264 1 rfl rfl ?_
                                refine x_if_eq (tgt := 274) d_P_compile_265 rfl (by have := zc_or (40 < a.1 ∨ ∃ j, 0 ≤ j ∧ j < k ∧ gCf (gM RB) (a.2.1 j)); rw [← hbad] at this; omega) (fun c265 => ?_) (fun c265 => ?_)
                                · refine x_aload_n d_P_compile_274 0 rfl rfl ?_
                                  refine x_aload_n d_P_compile_275 0 rfl rfl ?_
                                  refine x_geti 30 11 11 a.1 fl_P_115 tk_23_11 (hM.at 0 rfl) rfl rfl hau.1 d_P_compile_276 ?_
                                  refine x_puti 30 12 12 fp_P_93 tk_23_12 (hM.at 0 rfl) rfl rfl d_P_compile_279 (fun Q1 hQ1 => ?_)
                                  refine x_aload_n d_P_compile_282 0 rfl rfl ?_
                                  refine x_geti 30 12 12 a.1 fl_P_93 tk_23_12 (hM.at 0 rfl) rfl rfl (xr_s hQ1) d_P_compile_283 ?_
                                  exact x_iret d_P_compile_286 rfl (lr rfl) (lr rfl) (⟨_, rfl, rfl, hcq.good hQ1 h72 (hks.gr hgB) hn0 hcm (hks.gM.trans egB) (egB ▸ hfin) (fun q => hbd.mpr (egB.symm ▸ q) c265) ⟨hau.1, hau.2.1, fun i p q => hau.2.2 i p (by have := hlast (fun q2 => hbd.mpr (Or.inl q2) c265); omega)⟩⟩)
                                · refine x_aload_n d_P_compile_268 0 rfl rfl ?_
                                  refine x_iconst d_P_compile_269 ?_
                                  refine x_cvm 30 (As := [vi 2]) (c_P_fails (R := R2) hM 2) cs_P_86 hthis rfl rfl (lr rfl) d_P_compile_270 (lr rfl) ⟨lr rfl, lr rfl⟩ (fun z2 Q3 hQ3 => ?_)
                                  exact x_iret d_P_compile_273 rfl (lr rfl) (lr rfl) (⟨_, rfl, rfl, hcq.fail hQ3.2 h7x (Or.inr (Or.inr ⟨hn0, hcm, rfl, hks.gM.trans egB, a, egB ▸ hfin, egB ▸ hbd.mp c265⟩))⟩)
                              · refine x_iload_n d_P_compile_248 1 rfl rfl ?_
                                refine x_if_ne (tgt := 264) d_P_compile_249 rfl (by have := zc_or (40 < a.1 ∨ ∃ j, 0 ≤ j ∧ j < k ∧ gCf (gM RB) (a.2.1 j)); rw [← hbad] at this; omega) (fun c249 => ?_) (fun c249 => ?_)
                                · have hbd : badk ≠ 0 ↔ auBad (gM RB) a := by
                                    rw [hbad, zc_ne]
                                    exact ⟨fun q => q.elim Or.inl (fun ⟨j, q1, q2, q3⟩ => Or.inr ⟨j, q1, by omega, q3⟩), fun q => q.elim Or.inl (fun ⟨j, q1, q2, q3⟩ => by first | exact Or.inr ⟨j, q1, by omega, q3⟩ | exact (zc_ne.mp (show zc (40 < a.1 ∨ ∃ j, 0 ≤ j ∧ j < k ∧ gCf (gM RB) (a.2.1 j)) ≠ 0 from hbad ▸ c249)))⟩
                                  have h7x := h72
                                  refine x_iload_n d_P_compile_264 1 rfl rfl ?_
                                  refine x_if_eq (tgt := 274) d_P_compile_265 rfl (by have := zc_or (40 < a.1 ∨ ∃ j, 0 ≤ j ∧ j < k ∧ gCf (gM RB) (a.2.1 j)); rw [← hbad] at this; omega) (fun c265 => ?_) (fun c265 => ?_)
                                  · refine x_aload_n d_P_compile_274 0 rfl rfl ?_
                                    refine x_aload_n d_P_compile_275 0 rfl rfl ?_
                                    refine x_geti 30 11 11 a.1 fl_P_115 tk_23_11 (hM.at 0 rfl) rfl rfl hau.1 d_P_compile_276 ?_
                                    refine x_puti 30 12 12 fp_P_93 tk_23_12 (hM.at 0 rfl) rfl rfl d_P_compile_279 (fun Q4 hQ4 => ?_)
                                    refine x_aload_n d_P_compile_282 0 rfl rfl ?_
                                    refine x_geti 30 12 12 a.1 fl_P_93 tk_23_12 (hM.at 0 rfl) rfl rfl (xr_s hQ4) d_P_compile_283 ?_
                                    exact x_iret d_P_compile_286 rfl (lr rfl) (lr rfl) (⟨_, rfl, rfl, hcq.good hQ4 h72 (hks.gr hgB) hn0 hcm (hks.gM.trans egB) (egB ▸ hfin) (fun q => hbd.mpr (egB.symm ▸ q) c265) ⟨hau.1, hau.2.1, fun i p q => hau.2.2 i p (by have := hlast (fun q2 => hbd.mpr (Or.inl q2) c265); omega)⟩⟩)
                                  · refine x_aload_n d_P_compile_268 0 rfl rfl ?_
                                    refine x_iconst d_P_compile_269 ?_
                                    refine x_cvm 30 (As := [vi 2]) (c_P_fails (R := R2) hM 2) cs_P_86 hthis rfl rfl (lr rfl) d_P_compile_270 (lr rfl) ⟨lr rfl, lr rfl⟩ (fun z5 Q6 hQ6 => ?_)
                                    exact x_iret d_P_compile_273 rfl (lr rfl) (lr rfl) (⟨_, rfl, rfl, hcq.fail hQ6.2 h7x (Or.inr (Or.inr ⟨hn0, hcm, rfl, hks.gM.trans egB, a, egB ▸ hfin, egB ▸ hbd.mp c265⟩))⟩)
                                · refine x_aload_n d_P_compile_252 0 rfl rfl ?_
                                  refine x_iload_n d_P_compile_253 2 rfl rfl ?_
                                  have hb0 : badk = 0 := by omega
                                  have hle40 : a.1 ≤ 40 := Classical.byContradiction (fun q => zc_eq0.mp (hbad ▸ hb0) (Or.inl (by omega)))
                                  refine x_cvi 30 (As := [vi k]) (c_P_isConflict (R := R2) hM (hks.gr hgB) h72 k (by omega)) cs_P_128 hthis rfl rfl (lr rfl) d_P_compile_254 (lr rfl) ⟨lr rfl, lr rfl⟩ ?_
                                  refine x_istore_n d_P_compile_257 1 rfl [some (.ref ((σ 30).1)), some (vi (zc (gCf (gM R2) (mIt R2 k)))), some (vi k), none] rfl rfl (lr rfl) ?_
                                  refine x_iinc d_P_compile_258 rfl [some (.ref ((σ 30).1)), some (vi (zc (gCf (gM R2) (mIt R2 k)))), some (vi (k + 1)), none] rfl rfl (lr rfl) ?_
                                  refine x_goto (tgt := 240) d_P_compile_261 rfl ?_
                                  exact ihk _ (by omega) (k + 1) (zc (gCf (gM R2) (mIt R2 k))) rfl (by omega) (by rw [hks.gM, hau.2.1 k (by omega) (by omega)]; exact zcb_step hbad (by omega))
                          exact hlk _ 0 1 rfl (by omega) ((zc_t (Or.inl (by omega))).symm)
                      · refine x_aload_n d_P_compile_166 0 rfl rfl ?_
                        refine x_geti 30 11 11 a.1 fl_P_115 tk_23_11 (hM.at 0 rfl) rfl rfl hau.1 d_P_compile_167 ?_
                        refine x_bipush d_P_compile_170 rfl ?_
                        refine x_icmp_gt (tgt := 223) d_P_compile_172 rfl (by omega) (by omega) (fun c172 => ?_) (fun c172 => ?_)
                        · refine x_aload_n d_P_compile_223 0 rfl rfl ?_
                          refine x_geti 30 11 11 a.1 fl_P_115 tk_23_11 (hM.at 0 rfl) rfl rfl hau.1 d_P_compile_224 ?_
                          refine x_bipush d_P_compile_227 rfl ?_
                          refine x_icmp_le (tgt := 236) d_P_compile_229 rfl (by omega) (by omega) (fun c229 => ?_) (fun c229 => ?_)
                          · refine x_iconst d_P_compile_236 ?_
                            refine x_istore_n d_P_compile_237 1 rfl [some (.ref ((σ 30).1)), some (vi 0), none, none] rfl rfl (lr rfl) ?_
                            refine x_iconst d_P_compile_238 ?_
                            refine x_istore_n d_P_compile_239 2 rfl [some (.ref ((σ 30).1)), some (vi 0), some (vi 0), none] rfl rfl (lr rfl) ?_
                            have hfin : auF (gM RB) a := ⟨c, har, by omega⟩
                            have hlast : ¬ 40 < a.1 → 12 * a.1 ≤ (c : Int) := fun q => by omega
                            have hlk : ∀ (m : Nat) (k : Int) (badk : Int), (41 - k).toNat = m → (0 ≤ k ∧ k ≤ a.1) → (badk = zc (40 < a.1 ∨ ∃ j, 0 ≤ j ∧ j < k ∧ gCf (gM RB) (a.2.1 j))) → V X m_P_compile (4, 0, 0, Zm σ (fun z R1 => mCp R R1 z)) σ R2 0 0 240 [some (.ref ((σ 30).1)), some (vi badk), some (vi k), none] [] := by
                              intro m
                              induction m using Nat.strongRecOn with
                              | _ m ihk =>
                                intro k badk hmk hk1 hbad
                                refine x_iload_n d_P_compile_240 2 rfl rfl ?_
                                refine x_aload_n d_P_compile_241 0 rfl rfl ?_
                                refine x_geti 30 11 11 a.1 fl_P_115 tk_23_11 (hM.at 0 rfl) rfl rfl hau.1 d_P_compile_242 ?_
                                refine x_icmp_ge (tgt := 264) d_P_compile_245 rfl (by omega) (by omega) (fun c245 => ?_) (fun c245 => ?_)
                                · have hbd : badk ≠ 0 ↔ auBad (gM RB) a := by
                                    rw [hbad, zc_ne]
                                    exact ⟨fun q => q.elim Or.inl (fun ⟨j, q1, q2, q3⟩ => Or.inr ⟨j, q1, by omega, q3⟩), fun q => q.elim Or.inl (fun ⟨j, q1, q2, q3⟩ => by first | exact Or.inr ⟨j, q1, by omega, q3⟩ | exact (zc_ne.mp (show zc (40 < a.1 ∨ ∃ j, 0 ≤ j ∧ j < k ∧ gCf (gM RB) (a.2.1 j)) ≠ 0 from hbad ▸ c249)))⟩
                                  have h7x := h72
                                  refine x_iload_n d_P_compile_264 1 rfl rfl ?_
                                  refine x_if_eq (tgt := 274) d_P_compile_265 rfl (by have := zc_or (40 < a.1 ∨ ∃ j, 0 ≤ j ∧ j < k ∧ gCf (gM RB) (a.2.1 j)); rw [← hbad] at this; omega) (fun c265 => ?_) (fun c265 => ?_)
                                  · refine x_aload_n d_P_compile_274 0 rfl rfl ?_
                                    refine x_aload_n d_P_compile_275 0 rfl rfl ?_
                                    refine x_geti 30 11 11 a.1 fl_P_115 tk_23_11 (hM.at 0 rfl) rfl rfl hau.1 d_P_compile_276 ?_
                                    refine x_puti 30 12 12 fp_P_93 tk_23_12 (hM.at 0 rfl) rfl rfl d_P_compile_279 (fun Q1 hQ1 => ?_)
                                    refine x_aload_n d_P_compile_282 0 rfl rfl ?_
                                    refine x_geti 30 12 12 a.1 fl_P_93 tk_23_12 (hM.at 0 rfl) rfl rfl (xr_s hQ1) d_P_compile_283 ?_
                                    exact x_iret d_P_compile_286 rfl (lr rfl) (lr rfl) (⟨_, rfl, rfl, hcq.good hQ1 h72 (hks.gr hgB) hn0 hcm (hks.gM.trans egB) (egB ▸ hfin) (fun q => hbd.mpr (egB.symm ▸ q) c265) ⟨hau.1, hau.2.1, fun i p q => hau.2.2 i p (by have := hlast (fun q2 => hbd.mpr (Or.inl q2) c265); omega)⟩⟩)
                                  · refine x_aload_n d_P_compile_268 0 rfl rfl ?_
                                    refine x_iconst d_P_compile_269 ?_
                                    refine x_cvm 30 (As := [vi 2]) (c_P_fails (R := R2) hM 2) cs_P_86 hthis rfl rfl (lr rfl) d_P_compile_270 (lr rfl) ⟨lr rfl, lr rfl⟩ (fun z2 Q3 hQ3 => ?_)
                                    exact x_iret d_P_compile_273 rfl (lr rfl) (lr rfl) (⟨_, rfl, rfl, hcq.fail hQ3.2 h7x (Or.inr (Or.inr ⟨hn0, hcm, rfl, hks.gM.trans egB, a, egB ▸ hfin, egB ▸ hbd.mp c265⟩))⟩)
                                · refine x_iload_n d_P_compile_248 1 rfl rfl ?_
                                  refine x_if_ne (tgt := 264) d_P_compile_249 rfl (by have := zc_or (40 < a.1 ∨ ∃ j, 0 ≤ j ∧ j < k ∧ gCf (gM RB) (a.2.1 j)); rw [← hbad] at this; omega) (fun c249 => ?_) (fun c249 => ?_)
                                  · have hbd : badk ≠ 0 ↔ auBad (gM RB) a := by
                                      rw [hbad, zc_ne]
                                      exact ⟨fun q => q.elim Or.inl (fun ⟨j, q1, q2, q3⟩ => Or.inr ⟨j, q1, by omega, q3⟩), fun q => q.elim Or.inl (fun ⟨j, q1, q2, q3⟩ => by first | exact Or.inr ⟨j, q1, by omega, q3⟩ | exact (zc_ne.mp (show zc (40 < a.1 ∨ ∃ j, 0 ≤ j ∧ j < k ∧ gCf (gM RB) (a.2.1 j)) ≠ 0 from hbad ▸ c249)))⟩
                                    have h7x := h72
                                    refine x_iload_n d_P_compile_264 1 rfl rfl ?_
                                    refine x_if_eq (tgt := 274) d_P_compile_265 rfl (by have := zc_or (40 < a.1 ∨ ∃ j, 0 ≤ j ∧ j < k ∧ gCf (gM RB) (a.2.1 j)); rw [← hbad] at this; omega) (fun c265 => ?_) (fun c265 => ?_)
                                    · refine x_aload_n d_P_compile_274 0 rfl rfl ?_
                                      refine x_aload_n d_P_compile_275 0 rfl rfl ?_
                                      refine x_geti 30 11 11 a.1 fl_P_115 tk_23_11 (hM.at 0 rfl) rfl rfl hau.1 d_P_compile_276 ?_
                                      refine x_puti 30 12 12 fp_P_93 tk_23_12 (hM.at 0 rfl) rfl rfl d_P_compile_279 (fun Q4 hQ4 => ?_)
                                      refine x_aload_n d_P_compile_282 0 rfl rfl ?_
                                      refine x_geti 30 12 12 a.1 fl_P_93 tk_23_12 (hM.at 0 rfl) rfl rfl (xr_s hQ4) d_P_compile_283 ?_
                                      exact x_iret d_P_compile_286 rfl (lr rfl) (lr rfl) (⟨_, rfl, rfl, hcq.good hQ4 h72 (hks.gr hgB) hn0 hcm (hks.gM.trans egB) (egB ▸ hfin) (fun q => hbd.mpr (egB.symm ▸ q) c265) ⟨hau.1, hau.2.1, fun i p q => hau.2.2 i p (by have := hlast (fun q2 => hbd.mpr (Or.inl q2) c265); omega)⟩⟩)
                                    · refine x_aload_n d_P_compile_268 0 rfl rfl ?_
                                      refine x_iconst d_P_compile_269 ?_
                                      refine x_cvm 30 (As := [vi 2]) (c_P_fails (R := R2) hM 2) cs_P_86 hthis rfl rfl (lr rfl) d_P_compile_270 (lr rfl) ⟨lr rfl, lr rfl⟩ (fun z5 Q6 hQ6 => ?_)
                                      exact x_iret d_P_compile_273 rfl (lr rfl) (lr rfl) (⟨_, rfl, rfl, hcq.fail hQ6.2 h7x (Or.inr (Or.inr ⟨hn0, hcm, rfl, hks.gM.trans egB, a, egB ▸ hfin, egB ▸ hbd.mp c265⟩))⟩)
                                  · refine x_aload_n d_P_compile_252 0 rfl rfl ?_
                                    refine x_iload_n d_P_compile_253 2 rfl rfl ?_
                                    have hb0 : badk = 0 := by omega
                                    have hle40 : a.1 ≤ 40 := Classical.byContradiction (fun q => zc_eq0.mp (hbad ▸ hb0) (Or.inl (by omega)))
                                    refine x_cvi 30 (As := [vi k]) (c_P_isConflict (R := R2) hM (hks.gr hgB) h72 k (by omega)) cs_P_128 hthis rfl rfl (lr rfl) d_P_compile_254 (lr rfl) ⟨lr rfl, lr rfl⟩ ?_
                                    refine x_istore_n d_P_compile_257 1 rfl [some (.ref ((σ 30).1)), some (vi (zc (gCf (gM R2) (mIt R2 k)))), some (vi k), none] rfl rfl (lr rfl) ?_
                                    refine x_iinc d_P_compile_258 rfl [some (.ref ((σ 30).1)), some (vi (zc (gCf (gM R2) (mIt R2 k)))), some (vi (k + 1)), none] rfl rfl (lr rfl) ?_
                                    refine x_goto (tgt := 240) d_P_compile_261 rfl ?_
                                    exact ihk _ (by omega) (k + 1) (zc (gCf (gM R2) (mIt R2 k))) rfl (by omega) (by rw [hks.gM, hau.2.1 k (by omega) (by omega)]; exact zcb_step hbad (by omega))
                            exact hlk _ 0 0 rfl (by omega) ((zc_f (fun q => q.elim (fun q1 => by omega) (fun ⟨j, q1, q2, _⟩ => by omega))).symm)
                          · refine x_iconst d_P_compile_232 ?_
                            refine x_goto (tgt := 237) d_P_compile_233 rfl ?_
                            refine x_istore_n d_P_compile_237 1 rfl [some (.ref ((σ 30).1)), some (vi 1), none, none] rfl rfl (lr rfl) ?_
                            refine x_iconst d_P_compile_238 ?_
                            refine x_istore_n d_P_compile_239 2 rfl [some (.ref ((σ 30).1)), some (vi 1), some (vi 0), none] rfl rfl (lr rfl) ?_
                            have hfin : auF (gM RB) a := ⟨c, har, by omega⟩
                            have hlast : ¬ 40 < a.1 → 12 * a.1 ≤ (c : Int) := fun q => by omega
                            have hlk : ∀ (m : Nat) (k : Int) (badk : Int), (41 - k).toNat = m → (0 ≤ k ∧ k ≤ a.1) → (badk = zc (40 < a.1 ∨ ∃ j, 0 ≤ j ∧ j < k ∧ gCf (gM RB) (a.2.1 j))) → V X m_P_compile (4, 0, 0, Zm σ (fun z R1 => mCp R R1 z)) σ R2 0 0 240 [some (.ref ((σ 30).1)), some (vi badk), some (vi k), none] [] := by
                              intro m
                              induction m using Nat.strongRecOn with
                              | _ m ihk =>
                                intro k badk hmk hk1 hbad
                                refine x_iload_n d_P_compile_240 2 rfl rfl ?_
                                refine x_aload_n d_P_compile_241 0 rfl rfl ?_
                                refine x_geti 30 11 11 a.1 fl_P_115 tk_23_11 (hM.at 0 rfl) rfl rfl hau.1 d_P_compile_242 ?_
                                refine x_icmp_ge (tgt := 264) d_P_compile_245 rfl (by omega) (by omega) (fun c245 => ?_) (fun c245 => ?_)
                                · have hbd : badk ≠ 0 ↔ auBad (gM RB) a := by
                                    rw [hbad, zc_ne]
                                    exact ⟨fun q => q.elim Or.inl (fun ⟨j, q1, q2, q3⟩ => Or.inr ⟨j, q1, by omega, q3⟩), fun q => q.elim Or.inl (fun ⟨j, q1, q2, q3⟩ => by first | exact Or.inr ⟨j, q1, by omega, q3⟩ | exact (zc_ne.mp (show zc (40 < a.1 ∨ ∃ j, 0 ≤ j ∧ j < k ∧ gCf (gM RB) (a.2.1 j)) ≠ 0 from hbad ▸ c249)))⟩
                                  have h7x := h72
                                  refine x_iload_n d_P_compile_264 1 rfl rfl ?_
                                  refine x_if_eq (tgt := 274) d_P_compile_265 rfl (by have := zc_or (40 < a.1 ∨ ∃ j, 0 ≤ j ∧ j < k ∧ gCf (gM RB) (a.2.1 j)); rw [← hbad] at this; omega) (fun c265 => ?_) (fun c265 => ?_)
                                  · refine x_aload_n d_P_compile_274 0 rfl rfl ?_
                                    refine x_aload_n d_P_compile_275 0 rfl rfl ?_
                                    refine x_geti 30 11 11 a.1 fl_P_115 tk_23_11 (hM.at 0 rfl) rfl rfl hau.1 d_P_compile_276 ?_
                                    refine x_puti 30 12 12 fp_P_93 tk_23_12 (hM.at 0 rfl) rfl rfl d_P_compile_279 (fun Q1 hQ1 => ?_)
                                    refine x_aload_n d_P_compile_282 0 rfl rfl ?_
                                    refine x_geti 30 12 12 a.1 fl_P_93 tk_23_12 (hM.at 0 rfl) rfl rfl (xr_s hQ1) d_P_compile_283 ?_
                                    exact x_iret d_P_compile_286 rfl (lr rfl) (lr rfl) (⟨_, rfl, rfl, hcq.good hQ1 h72 (hks.gr hgB) hn0 hcm (hks.gM.trans egB) (egB ▸ hfin) (fun q => hbd.mpr (egB.symm ▸ q) c265) ⟨hau.1, hau.2.1, fun i p q => hau.2.2 i p (by have := hlast (fun q2 => hbd.mpr (Or.inl q2) c265); omega)⟩⟩)
                                  · refine x_aload_n d_P_compile_268 0 rfl rfl ?_
                                    refine x_iconst d_P_compile_269 ?_
                                    refine x_cvm 30 (As := [vi 2]) (c_P_fails (R := R2) hM 2) cs_P_86 hthis rfl rfl (lr rfl) d_P_compile_270 (lr rfl) ⟨lr rfl, lr rfl⟩ (fun z2 Q3 hQ3 => ?_)
                                    exact x_iret d_P_compile_273 rfl (lr rfl) (lr rfl) (⟨_, rfl, rfl, hcq.fail hQ3.2 h7x (Or.inr (Or.inr ⟨hn0, hcm, rfl, hks.gM.trans egB, a, egB ▸ hfin, egB ▸ hbd.mp c265⟩))⟩)
                                · refine x_iload_n d_P_compile_248 1 rfl rfl ?_
                                  refine x_if_ne (tgt := 264) d_P_compile_249 rfl (by have := zc_or (40 < a.1 ∨ ∃ j, 0 ≤ j ∧ j < k ∧ gCf (gM RB) (a.2.1 j)); rw [← hbad] at this; omega) (fun c249 => ?_) (fun c249 => ?_)
                                  · have hbd : badk ≠ 0 ↔ auBad (gM RB) a := by
                                      rw [hbad, zc_ne]
                                      exact ⟨fun q => q.elim Or.inl (fun ⟨j, q1, q2, q3⟩ => Or.inr ⟨j, q1, by omega, q3⟩), fun q => q.elim Or.inl (fun ⟨j, q1, q2, q3⟩ => by first | exact Or.inr ⟨j, q1, by omega, q3⟩ | exact (zc_ne.mp (show zc (40 < a.1 ∨ ∃ j, 0 ≤ j ∧ j < k ∧ gCf (gM RB) (a.2.1 j)) ≠ 0 from hbad ▸ c249)))⟩
                                    have h7x := h72
                                    refine x_iload_n d_P_compile_264 1 rfl rfl ?_
                                    refine x_if_eq (tgt := 274) d_P_compile_265 rfl (by have := zc_or (40 < a.1 ∨ ∃ j, 0 ≤ j ∧ j < k ∧ gCf (gM RB) (a.2.1 j)); rw [← hbad] at this; omega) (fun c265 => ?_) (fun c265 => ?_)
                                    · refine x_aload_n d_P_compile_274 0 rfl rfl ?_
                                      refine x_aload_n d_P_compile_275 0 rfl rfl ?_
                                      refine x_geti 30 11 11 a.1 fl_P_115 tk_23_11 (hM.at 0 rfl) rfl rfl hau.1 d_P_compile_276 ?_
                                      refine x_puti 30 12 12 fp_P_93 tk_23_12 (hM.at 0 rfl) rfl rfl d_P_compile_279 (fun Q4 hQ4 => ?_)
                                      refine x_aload_n d_P_compile_282 0 rfl rfl ?_
                                      refine x_geti 30 12 12 a.1 fl_P_93 tk_23_12 (hM.at 0 rfl) rfl rfl (xr_s hQ4) d_P_compile_283 ?_
                                      exact x_iret d_P_compile_286 rfl (lr rfl) (lr rfl) (⟨_, rfl, rfl, hcq.good hQ4 h72 (hks.gr hgB) hn0 hcm (hks.gM.trans egB) (egB ▸ hfin) (fun q => hbd.mpr (egB.symm ▸ q) c265) ⟨hau.1, hau.2.1, fun i p q => hau.2.2 i p (by have := hlast (fun q2 => hbd.mpr (Or.inl q2) c265); omega)⟩⟩)
                                    · refine x_aload_n d_P_compile_268 0 rfl rfl ?_
                                      refine x_iconst d_P_compile_269 ?_
                                      refine x_cvm 30 (As := [vi 2]) (c_P_fails (R := R2) hM 2) cs_P_86 hthis rfl rfl (lr rfl) d_P_compile_270 (lr rfl) ⟨lr rfl, lr rfl⟩ (fun z5 Q6 hQ6 => ?_)
                                      exact x_iret d_P_compile_273 rfl (lr rfl) (lr rfl) (⟨_, rfl, rfl, hcq.fail hQ6.2 h7x (Or.inr (Or.inr ⟨hn0, hcm, rfl, hks.gM.trans egB, a, egB ▸ hfin, egB ▸ hbd.mp c265⟩))⟩)
                                  · refine x_aload_n d_P_compile_252 0 rfl rfl ?_
                                    refine x_iload_n d_P_compile_253 2 rfl rfl ?_
                                    have hb0 : badk = 0 := by omega
                                    have hle40 : a.1 ≤ 40 := Classical.byContradiction (fun q => zc_eq0.mp (hbad ▸ hb0) (Or.inl (by omega)))
                                    refine x_cvi 30 (As := [vi k]) (c_P_isConflict (R := R2) hM (hks.gr hgB) h72 k (by omega)) cs_P_128 hthis rfl rfl (lr rfl) d_P_compile_254 (lr rfl) ⟨lr rfl, lr rfl⟩ ?_
                                    refine x_istore_n d_P_compile_257 1 rfl [some (.ref ((σ 30).1)), some (vi (zc (gCf (gM R2) (mIt R2 k)))), some (vi k), none] rfl rfl (lr rfl) ?_
                                    refine x_iinc d_P_compile_258 rfl [some (.ref ((σ 30).1)), some (vi (zc (gCf (gM R2) (mIt R2 k)))), some (vi (k + 1)), none] rfl rfl (lr rfl) ?_
                                    refine x_goto (tgt := 240) d_P_compile_261 rfl ?_
                                    exact ihk _ (by omega) (k + 1) (zc (gCf (gM R2) (mIt R2 k))) rfl (by omega) (by rw [hks.gM, hau.2.1 k (by omega) (by omega)]; exact zcb_step hbad (by omega))
                            exact hlk _ 0 1 rfl (by omega) ((zc_t (Or.inl (by omega))).symm)
                        · refine x_iconst d_P_compile_175 ?_
                          refine x_istore_n d_P_compile_176 2 rfl [some (.ref ((σ 30).1)), some (vi s), some (vi 0), none] rfl rfl (lr rfl) ?_
                          have hlx : ∀ (m : Nat) (x : Int) (c : Nat) (a : auT) (R2 : xR), (12 - x).toNat = m → (0 ≤ x ∧ x ≤ 12) → ((c : Int) = 12 * s + x) → (s < a.1) → (auR (gM RB) c a) → (mAu R2 a c) → (mKs RB R2) → (∀ i, 0 ≤ i → i < 2310 → s7 (R2 44 i)) → V X m_P_compile (4, 0, 0, Zm σ (fun z R1 => mCp R R1 z)) σ R2 0 0 177 [some (.ref ((σ 30).1)), some (vi s), some (vi x), none] [] := by
                            intro m
                            induction m using Nat.strongRecOn with
                            | _ m ihx =>
                              intro x c a R2 hmx hx1 hcx hsa har hau hks h72
                              have hinv0 := auR.inv _ har
                              refine x_iload_n d_P_compile_177 2 rfl rfl ?_
                              refine x_bipush d_P_compile_178 rfl ?_
                              refine x_icmp_ge (tgt := 217) d_P_compile_180 rfl (by omega) (by omega) (fun c180 => ?_) (fun c180 => ?_)
                              · refine x_iinc d_P_compile_217 rfl [some (.ref ((σ 30).1)), some (vi (s + 1)), some (vi x), none] rfl rfl (lr rfl) ?_
                                refine x_goto (tgt := 158) d_P_compile_220 rfl ?_
                                refine V.forget 2 [some (.ref ((σ 30).1)), some (vi (s + 1)), none, none] rfl ?_
                                have hinv := auR.inv _ har
                                exact ihs _ (by omega) (s + 1) c a R2 rfl (by omega) har hau (by omega) hks h72
                              · refine x_aload_n d_P_compile_183 0 rfl rfl ?_
                                refine x_geti 30 11 11 a.1 fl_P_115 tk_23_11 (hM.at 0 rfl) rfl rfl hau.1 d_P_compile_184 ?_
                                refine x_bipush d_P_compile_187 rfl ?_
                                refine x_icmp_gt (tgt := 217) d_P_compile_189 rfl (by omega) (by omega) (fun c189 => ?_) (fun c189 => ?_)
                                · refine x_iinc d_P_compile_217 rfl [some (.ref ((σ 30).1)), some (vi (s + 1)), some (vi x), none] rfl rfl (lr rfl) ?_
                                  refine x_goto (tgt := 158) d_P_compile_220 rfl ?_
                                  refine V.forget 2 [some (.ref ((σ 30).1)), some (vi (s + 1)), none, none] rfl ?_
                                  have hinv := auR.inv _ har
                                  exact ihs _ (by omega) (s + 1) c a R2 rfl (by omega) har hau (by omega) hks h72
                                · refine x_aload_n d_P_compile_192 0 rfl rfl ?_
                                  refine x_iload_n d_P_compile_193 1 rfl rfl ?_
                                  refine x_iload_n d_P_compile_194 2 rfl rfl ?_
                                  refine x_cvm 30 (As := [vi s, vi x]) (c_P_led (R := R2) hM (hks.gr hgB) (hks.pr hpB) h72 a.1 s x hau.1 (by omega) (by omega) (by omega)) cs_P_125 hthis rfl rfl (lr rfl) d_P_compile_195 (lr rfl) ⟨lr rfl, lr rfl⟩ (fun z1 Q2 hQ2 => ?_)
                                  refine x_istore_n d_P_compile_198 3 rfl [some (.ref ((σ 30).1)), some (vi s), some (vi x), some (vi z1)] rfl rfl (lr rfl) ?_
                                  refine x_aload_n d_P_compile_199 0 rfl rfl ?_
                                  refine x_getc 30 14 45 45 fl_P_39 tk_23_14 (hM.at 0 rfl) rfl rfl d_P_compile_200 ?_
                                  refine x_bipush d_P_compile_203 rfl ?_
                                  refine x_iload_n d_P_compile_205 1 rfl rfl ?_
                                  refine x_imul d_P_compile_206 ?_
                                  refine x_iload_n d_P_compile_207 2 rfl rfl ?_
                                  refine x_iadd d_P_compile_208 ?_
                                  refine x_iload_n d_P_compile_209 3 rfl rfl ?_
                                  refine x_iast 45 (hM.at 10 rfl) rfl ⟨by decide, rfl, by decide⟩ rfl (by omega) d_P_compile_210 (fun Q3 hQ3 => ?_)
                                  refine x_iinc d_P_compile_211 rfl [some (.ref ((σ 30).1)), some (vi s), some (vi (x + 1)), some (vi z1)] rfl rfl (lr rfl) ?_
                                  refine x_goto (tgt := 177) d_P_compile_214 rfl ?_
                                  refine V.forget 3 [some (.ref ((σ 30).1)), some (vi s), some (vi (x + 1)), none] rfl ?_
                                  obtain ⟨b, hb1, hb2, hb3, hb4⟩ := mAu.step (hks.gM) har hau hcx (by omega) (by omega) (by omega) hQ2 hQ3
                                  have hinv := auR.inv _ hb1
                                  exact ihx _ (by omega) (x + 1) (c + 1) b Q3 rfl (by omega) (by omega) (by have := hmono har hb1; omega) hb1 hb2 (fun p1 p2 p3 p4 p5 => (xr_o hQ3 p4).trans ((hQ2.1 p1 p2 p3 p5).trans (hks p1 p2 p3 p4 p5))) (fun p1 p2 p3 => by rw [xr_o hQ3 (by decide)]; exact hQ2.2.2.1 p1 p2 p3)
                          exact hlx _ 0 c a R2 rfl (by omega) (by omega) (by omega) har hau hks h72
                  exact hls _ 0 0 (auI (gM RB)) RB rfl (by omega) rfl ⟨xr_s hQ3, fun k a b => by have b2 : k < 1 := b; rw [show k = 0 by omega]; exact hIt0, fun i a b => by omega⟩ (Or.inl rfl) (fun _ _ _ _ _ => rfl) h7B
                · refine x_aload_n d_P_compile_124 0 rfl rfl ?_
                  refine x_getc 30 13 44 44 fl_P_36 tk_23_13 (hM.at 0 rfl) rfl rfl d_P_compile_125 ?_
                  refine x_iload_n d_P_compile_128 1 rfl rfl ?_
                  refine x_iconst d_P_compile_129 ?_
                  refine x_iast 44 (hM.at 9 rfl) rfl ⟨by decide, rfl, by decide⟩ rfl (by omega) d_P_compile_130 (fun Q4 hQ4 => ?_)
                  refine x_iinc d_P_compile_131 rfl [some (.ref ((σ 30).1)), some (vi (k + 1)), none, none] rfl rfl (lr rfl) ?_
                  refine x_goto (tgt := 118) d_P_compile_134 rfl ?_
                  exact ihc _ (by omega) (k + 1) Q4 rfl (by omega) (hc0.step (by omega) (by rw [show (55 * 0 + k : Int) = k by omega]; exact hQ4))
            exact hlc _ 0 R5 rfl (by omega) ⟨fun _ _ _ => rfl, fun _ _ => rfl, fun i a b => by omega⟩
          · refine x_aload_n d_P_compile_103 0 rfl rfl ?_
            refine x_getc 30 5 36 36 fl_P_17 tk_23_5 (hM.at 0 rfl) rfl rfl d_P_compile_104 ?_
            refine x_iload_n d_P_compile_107 1 rfl rfl ?_
            refine x_iconst d_P_compile_108 ?_
            refine x_iast 36 (hM.at 3 rfl) rfl ⟨by decide, rfl, by decide⟩ rfl (by omega) d_P_compile_109 (fun Q1 hQ1 => ?_)
            refine x_iinc d_P_compile_110 rfl [some (.ref ((σ 30).1)), some (vi (r + 1)), none, none] rfl rfl (lr rfl) ?_
            refine x_goto (tgt := 97) d_P_compile_113 rfl ?_
            exact ihl _ (by omega) (r + 1) Q1 rfl (by omega) (hpt.step (by omega) hQ1)
      exact hll _ (R4 30 3) Q8 rfl (by omega) hpt0
    · refine x_aload_n d_P_compile_45 0 rfl rfl ?_
      refine x_iconst d_P_compile_46 ?_
      refine x_cvm 30 (As := [vi 2]) (c_P_fails (R := R4) hM 2) cs_P_86 hthis rfl rfl (lr rfl) d_P_compile_47 (lr rfl) ⟨lr rfl, lr rfl⟩ (fun z9 Q10 hQ10 => ?_)
      exact x_iret d_P_compile_50 rfl (lr rfl) (lr rfl) (⟨_, rfl, rfl, hcq4.fail hQ10.2 h74 (Or.inr (Or.inl ⟨c18, zc_eq0.mp c42, rfl, hk4.gM.trans hf.gM⟩))⟩)
  · refine x_aload_n d_P_compile_21 0 rfl rfl ?_
    refine x_iconst d_P_compile_22 ?_
    refine x_cvm 30 (As := [vi 1]) (c_P_fails (R := Q3) hM 1) cs_P_86 hthis rfl rfl (lr rfl) d_P_compile_23 (lr rfl) ⟨lr rfl, lr rfl⟩ (fun z11 Q12 hQ12 => ?_)
    exact x_iret d_P_compile_26 rfl (lr rfl) (lr rfl) (⟨_, rfl, rfl, (mCq.of hf).fail hQ12.2 (fun i a b => by rw [hf.1 44 i (by omega)]; exact h7 i a b) (Or.inl ⟨c18, rfl, hf.gM⟩)⟩)
