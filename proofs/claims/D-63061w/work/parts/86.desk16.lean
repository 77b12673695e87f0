/-! the desk: compile's loops -/
set_option maxHeartbeats 4000000 in
set_option maxRecDepth 100000 in
theorem v_D_clear {X : xCtx} {Z : xZ} {σ : xS} {R0 : xR} (hD : dSh σ) (G : xGr) (a : auT) (u υ : Int → Int) (m eU : Int) (capU : Nat) (hUs : dUs σ R0 G u m υ eU capU) (π : Int → Int) (e n : Int) (cap : Nat) (hP : dPl σ R0 π e n cap) (hw : gW G) (ho : auOk G a) (hn : a.1 ≤ n) (hAu : dAu R0 u m π a a.1 0) (cn sn : Nat) (hcn : cn ≤ 1600) (hsn : sn ≤ 38500)
    (fin1 : ∀ R1 : xR, (∀ b, ¬ (400 ≤ b ∧ b < 440) → R1 b = R0 b) → auC G a → dLd G a u m R1 → V X m_D_compile (11, 1600, 38500, Z) σ R1 cn sn 107 [some (.ref (σ 1).1), some (vi 1), some (vi a.1)] [])
    (fin0 : ∀ (R1 : xR) (k : Int), (∀ b, ¬ (400 ≤ b ∧ b < 440) → R1 b = R0 b) → (∃ k, 0 ≤ k ∧ k < a.1 ∧ gCf G (a.2.1 k)) → V X m_D_compile (11, 1600, 38500, Z) σ R1 cn sn 99 [some (.ref (σ 1).1), some (vi 0), some (vi k)] []) :
    ∀ (mw : Nat) (k good : Int) (R1 : xR), (41 - k).toNat = mw → 0 ≤ k → k ≤ a.1 → (∀ b, ¬ (400 ≤ b ∧ b < 440) → R1 b = R0 b) → (∀ i, k ≤ i → R1 (400 + i) = R0 (400 + i)) → (∀ i x, 0 ≤ i → i < k → 7 ≤ x → R1 (400 + i) x = R0 (400 + i) x) → ((good = 0 ∧ ∃ k, 0 ≤ k ∧ k < a.1 ∧ gCf G (a.2.1 k)) ∨ (good = 1 ∧ ∀ i, 0 ≤ i → i < k → ¬ gCf G (a.2.1 i) ∧ ∀ t, 0 ≤ t → t < 7 → dLt G a u m i t (R1 (400 + i) t))) → V X m_D_compile (11, 1600, 38500, Z) σ R1 cn sn 71 [some (.ref (σ 1).1), some (vi good), some (vi k)] [] := by
  intro mw
  induction mw using Nat.strongRecOn with
  | _ mw ih =>
    intro k good R1 hmw hk0 hk1 hkp hk2 hk3 hg
    have hd1 := hD.1.at 0 (k := 1) (t := 17) (n := 0) rfl
    have h40 := ho.2.2.1
    have e10 : R1 1 10 = a.1 := by rw [hkp 1 (by omega)]; exact hAu.1
    -- the end
    have fin : (good = 0 ∨ k = a.1) → V X m_D_compile (11, 1600, 38500, Z) σ R1 cn sn 95 [some (.ref (σ 1).1), some (vi good), some (vi k)] [] := by
      intro hq
      refine x_iload_n d_D_compile_95 1 rfl rfl ?_
      rcases hg with ⟨g1, g2⟩ | ⟨g1, g2⟩
      · rw [g1]
        refine x_if_ne (tgt := 107) d_D_compile_96 rfl (by omega) (fun c => ?_) (fun c => ?_)
        · omega
        · exact fin0 R1 k hkp g2
      · have ek : k = a.1 := by omega
        rw [g1]
        refine x_if_ne (tgt := 107) d_D_compile_96 rfl (by omega) (fun c => ?_) (fun c => ?_)
        · rw [ek] at g2 hk3 ⊢
          refine fin1 R1 hkp (fun i i0 i1 => (g2 i i0 i1).1) (fun i i0 i1 => ⟨(g2 i i0 i1).2, fun x x0 x1 => ?_⟩)
          rw [hk3 i (7 + x) i0 i1 (by omega), hAu.2.2 i (7 + x) i0 (by omega) (by omega) (Or.inl i1)]
          unfold dld
          rw [if_neg (by omega)]
          unfold ix
          rw [if_neg (by omega)]
          rw [show 12 * i + (7 + x - 1) = 12 * i + (6 + x) by omega]
        · omega
    have hgr : good = 0 ∨ good = 1 := hg.imp (fun q => q.1) (fun q => q.1)
    refine x_iload_n d_D_compile_71 2 rfl rfl ?_
    refine x_aload_n d_D_compile_72 0 rfl rfl ?_
    refine x_geti 1 10 10 a.1 fl_D_197 tk_17_10 hd1 rfl rfl e10 d_D_compile_73 ?_
    refine x_icmp_ge (tgt := 95) d_D_compile_76 rfl (by omega) (by omega) (fun c => ?_) (fun c => ?_)
    · exact fin (Or.inr (by omega))
    · refine x_iload_n d_D_compile_79 1 rfl rfl ?_
      refine x_if_eq (tgt := 95) d_D_compile_80 rfl (by omega) (fun c2 => ?_) (fun c2 => ?_)
      · exact fin (Or.inl c2)
      · obtain ⟨g1, g2⟩ : good = 1 ∧ ∀ i, 0 ≤ i → i < k → ¬ gCf G (a.2.1 i) ∧ ∀ t, 0 ≤ t → t < 7 → dLt G a u m i t (R1 (400 + i) t) := hg.resolve_left (fun q => c2 q.1)
        have hu9 := hUs.2.2.1
        have hp9 := hP.2.2.1
        have hUs1 : dUs σ R1 G u m υ eU capU := hUs.keep (hkp 3 (by omega)) (hkp eU (by omega)) (fun j j0 j1 => ⟨hkp _ (by have := (hUs.2.2.2 j j0 j1).2.2.1; omega), hkp _ (by have := (hUs.2.2.2 j j0 j1).2.2.1; omega)⟩)
        have hP1 : dPl σ R1 π e n cap := hP.ext sx.rf (hkp 4 (by omega)) (fun _ => hkp e (by omega))
        have hrg := hP.rg (i := k) (by omega)
        refine x_aload_n d_D_compile_83 0 rfl rfl ?_
        refine x_iload_n d_D_compile_84 2 rfl rfl ?_
        refine x_cvm 1 (As := [vi k]) (c_D_isClear hD G a u υ m eU capU hUs1 π e n cap hP1 hw ho k (by omega) (by rw [dIt_eq (hkp (π k + 1) (by omega))]; exact (hAu.2.1 k (by omega) (by omega)).2) (fun t t0 t1 => by rw [hk2 k (Int.le_refl _)]; exact hAu.2.2 k t (by omega) t0 (by omega) (Or.inl (by omega)))) cs_D_226 (thisD hD) rfl rfl (lr rfl) d_D_compile_85 (lr rfl) ⟨hcn, hsn⟩ (fun z R2 hz => ?_)
        obtain ⟨z1, z2, z3⟩ := hz
        refine x_istore_n d_D_compile_88 1 rfl [some (.ref (σ 1).1), some (vi z), some (vi k)] rfl rfl (lr rfl) ?_
        refine x_iinc d_D_compile_89 rfl [some (.ref (σ 1).1), some (vi z), some (vi (k + 1))] rfl rfl (lr rfl) ?_
        refine x_goto (tgt := 71) d_D_compile_92 rfl ?_
        refine ih _ (by omega) (k + 1) z R2 rfl (by omega) (by omega) (fun b hb => by rw [z1 b (by omega)]; exact hkp b hb) (fun i hi => by rw [z1 (400 + i) (by omega)]; exact hk2 i (by omega)) (fun i x i0 i1 x7 => ?_) ?_
        · by_cases ei : i = k
          · rw [ei, z2 x x7, hk2 k (Int.le_refl _)]
          · rw [z1 (400 + i) (by omega)]; exact hk3 i x i0 (by omega) x7
        · rcases z3 with ⟨y1, y2⟩ | ⟨y1, y2, y3⟩
          · exact Or.inl ⟨y1, k, by omega, by omega, y2⟩
          · refine Or.inr ⟨y1, fun i i0 i1 => ?_⟩
            by_cases ei : i = k
            · rw [ei]; exact ⟨y2, y3⟩
            · rw [z1 (400 + i) (by omega)]; exact g2 i i0 (by omega)
set_option maxHeartbeats 4000000 in
set_option maxRecDepth 100000 in
theorem v_D_items {X : xCtx} {Z : xZ} {σ : xS} {R0 : xR} (hD : dSh σ) (G : xGr) (a : auT) (u : Int → Int) (m : Int) (π : Int → Int) (e n : Int) (cap : Nat) (hP : dPl σ R0 π e n cap) (hw : gW G) (hu : uOk G u m) (hn : 1 ≤ a.1 ∧ a.1 ≤ n ∧ a.1 ≤ 40) (h10 : R0 1 10 = a.1) (hst : ∀ i, 0 ≤ i → i < a.1 → dSt R0 m (π i) ∧ dIt R0 u m (π i) = a.2.1 i) (cn sn : Nat) (hcn : cn ≤ 1600) (hsn : sn ≤ 38500)
    (fin : ∀ R1 : xR, R1 = xup R0 1 13 (sumF (fun k => aCt (a.2.1 k)) a.1.toNat) → Z (.returned (some (vi a.1))) σ R1) :
    ∀ (mw : Nat) (k : Int) (R1 : xR), (a.1 - k).toNat = mw → 0 ≤ k → k ≤ a.1 → R1 = xup R0 1 13 (sumF (fun k => aCt (a.2.1 k)) k.toNat) → V X m_D_compile (11, 1600, 38500, Z) σ R1 cn sn 119 [some (.ref (σ 1).1), some (vi 1), some (vi k)] [] := by
  intro mw
  induction mw using Nat.strongRecOn with
  | _ mw ih =>
    intro k R1 hmw hk0 hk1 hR1
    have hd1 := hD.1.at 0 (k := 1) (t := 17) (n := 0) rfl
    have e10 : R1 1 10 = a.1 := by rw [xr_d hR1 (by decide)]; exact h10
    refine x_iload_n d_D_compile_119 2 rfl rfl ?_
    refine x_aload_n d_D_compile_120 0 rfl rfl ?_
    refine x_geti 1 10 10 a.1 fl_D_197 tk_17_10 hd1 rfl rfl e10 d_D_compile_121 ?_
    refine x_icmp_ge (tgt := 156) d_D_compile_124 rfl (by omega) (by omega) (fun c => ?_) (fun c => ?_)
    · refine x_aload_n d_D_compile_156 0 rfl rfl ?_
      refine x_geti 1 10 10 a.1 fl_D_197 tk_17_10 hd1 rfl rfl e10 d_D_compile_157 ?_
      exact x_iret d_D_compile_160 rfl hcn hsn (fin R1 (by rw [hR1, show k = a.1 by omega]))
    · have k1 : ∀ b, b ≠ 1 → R1 b = R0 b := fun b h => by funext i; exact xr_o hR1 h
      have hp9 := hP.2.2.1
      have hP1 : dPl σ R1 π e n cap := hP.ext sx.rf (k1 4 (by omega)) (fun _ => k1 e (by omega))
      obtain ⟨p1, p2, p3, p4⟩ := hP1.2.2.2.2.1 k hk0 (by omega)
      have hA4 := hP1.1
      obtain ⟨s1, s2⟩ := hst k hk0 (by omega)
      have ek := k1 (π k + 1) (by omega)
      have hct : sumF (fun i => zc (sH R1 (π k + 1) i)) 448 = aCt (a.2.1 k) := by
        rw [aCt_d hw hu (dSt_eq ek s1), dIt_eq ek, s2]
      refine x_aload_n d_D_compile_127 0 rfl rfl ?_
      refine x_dup d_D_compile_128 rfl ?_
      refine x_geti 1 13 13 (sumF (fun k => aCt (a.2.1 k)) k.toNat) fl_D_232 tk_17_13 hd1 rfl rfl (xr_s hR1) d_D_compile_129 ?_
      refine x_aload_n d_D_compile_132 0 rfl rfl ?_
      refine x_getc 1 9 4 4 fl_D_45 tk_17_9 hd1 rfl rfl d_D_compile_133 ?_
      refine x_iload_n d_D_compile_136 2 rfl rfl ?_
      refine x_cva 4 (As := [vi k]) (c_AL_get 4 e n cap hA4 k (σ (π k)).1 (by omega) p1) cs_D_131 hA4.rc rfl rfl (lr rfl) d_D_compile_137 (lr rfl) ⟨hcn, hsn⟩ ?_
      refine x_castS (π k) p2 rfl d_D_compile_140 ?_
      refine x_cvi (π k) (As := []) (c_S_size (π k) p2 p3) cs_D_235 (thisS p2) rfl rfl (lr rfl) d_D_compile_143 (lr rfl) ⟨hcn, hsn⟩ ?_
      refine x_iadd d_D_compile_146 ?_
      refine x_puti 1 13 13 fp_D_232 tk_17_13 hd1 rfl rfl d_D_compile_147 (fun R2 hR2 => ?_)
      refine x_iinc d_D_compile_150 rfl [some (.ref (σ 1).1), some (vi 1), some (vi (k + 1))] rfl rfl (lr rfl) ?_
      refine x_goto (tgt := 119) d_D_compile_153 rfl ?_
      refine ih _ (by omega) (k + 1) R2 rfl (by omega) (by omega) ?_
      rw [hR2, hct, hR1, sumF_nx hk0]
      funext p i
      by_cases c1 : p = 1 ∧ i = 13
      · rw [c1.1, c1.2, xr_s rfl, xr_s rfl]
      · rw [xr_up rfl c1, xr_up rfl c1, xr_up rfl c1]
