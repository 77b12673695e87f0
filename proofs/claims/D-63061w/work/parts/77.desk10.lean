/-! the desk: build's list of used rules -/
theorem isL_us {g : xGr} {R : xR} {k : Int} (hp : dPr g R) (hw : gWf g) (hk : 0 ≤ k ∧ k < g.1) : (∀ j, 0 ≤ j → j < ((g.2.2.1 k).toNat : Int) → dL R (g.2.2.2 k) j) ↔ gUs g k := by
  obtain ⟨-, hl, hs⟩ := hw.2.2 k hk.1 hk.2
  have e : ((g.2.2.1 k).toNat : Int) = g.2.2.1 k := by omega
  rw [e]
  unfold dL gUs
  constructor
  · intro h
    refine ⟨hk.1, hk.2, fun j j0 j1 => ?_⟩
    have hj := hs j j0 j1
    by_cases c : g.2.2.2 k j < 6
    · exact Or.inl c
    · refine Or.inr ?_
      have q := (h j j0 j1).resolve_left c
      rw [(hp.2 (g.2.2.2 k j - 6) (by omega) (by omega)).1] at q
      exact zc_ne.mp q
  · intro h j j0 j1
    have hj := hs j j0 j1
    by_cases c : g.2.2.2 k j < 6
    · exact Or.inl c
    · refine Or.inr ?_
      rw [(hp.2 (g.2.2.2 k j - 6) (by omega) (by omega)).1]
      exact zc_ne.mpr ((h.2.2 j j0 j1).resolve_left c)
theorem obR {σ : xS} {k : Int} (h : (σ k).2 = (18, 0)) : obRS σ k := ⟨18, 0, h, by decide⟩
set_option maxHeartbeats 4000000 in
set_option maxRecDepth 100000 in
theorem v_D_used {X : xCtx} {Z : xZ} {σ0 : xS} {R0 : xR} (hD0 : dSh σ0) (g : xGr) (ρ : Int → Int) (e2 e3 f : Int) (cap2 qa : Nat) (hf0 : fr f σ0)
    (fin : ∀ (σ : xS) (R : xR) (u : Int → Int) (m e : Int) (cap : Nat) (f1 : Int), dUl σ0 R0 g ρ e2 cap2 e3 f g.1 σ R u m e cap f1 → V X m_D_build (10, 1580, 38400, Z) σ R 14 720 102 [some (.ref (σ 1).1), some (.ref qa), some (vi g.1), none, none] []) :
    ∀ (mw n : Nat) (σ : xS) (R : xR) (u : Int → Int) (m e : Int) (cap : Nat) (f1 : Int), g.1.toNat - n = mw → (n : Int) ≤ g.1 → dUl σ0 R0 g ρ e2 cap2 e3 f n σ R u m e cap f1 → V X m_D_build (10, 1580, 38400, Z) σ R (4 + n) (70 + 64 * n) 48 [some (.ref (σ 1).1), some (.ref qa), some (vi n), none, none] [] := by
  intro mw
  induction mw using Nat.strongRecOn with
  | _ mw ih =>
    intro n σ R u m e cap f1 hmw hn hU
    obtain ⟨a1, a2, a3, a4, a5, a6, a7, a8, a9⟩ := hU
    have hU : dUl σ0 R0 g ρ e2 cap2 e3 f n σ R u m e cap f1 := ⟨a1, a2, a3, a4, a5, a6, a7, a8, a9⟩
    have hD := hD0.ext a1
    have hd1 := hD.1.at 0 (k := 1) (t := 17) (n := 0) rfl
    have hA2 := a4.2.1
    have hA3 := a6.2.1
    have hg10 := a4.1.2.1
    have hm := a6.1.1
    refine x_iload_n d_D_build_48 2 rfl rfl ?_
    refine x_aload_n d_D_build_49 0 rfl rfl ?_
    refine x_getc 1 0 2 2 fl_D_10 tk_17_0 hd1 rfl rfl d_D_build_50 ?_
    refine x_cvi 2 (As := []) (c_AL_size 2 e2 g.1 cap2 hA2) cs_D_128 hA2.rc rfl rfl (lr rfl) d_D_build_53 (lr rfl) ⟨by show 4 + n + 0 ≤ 1580; omega, by show 70 + 64 * n + 0 ≤ 38400; omega⟩ ?_
    refine x_icmp_ge (tgt := 102) d_D_build_56 rfl (by omega) (by omega) (fun c => ?_) (fun c => ?_)
    · have en : (n : Int) = g.1 := by omega
      rw [en] at hU ⊢
      exact V.widen 14 720 (by omega) (by omega) (fin σ R u m e cap f1 hU)
    · have hk : 0 ≤ (n : Int) ∧ (n : Int) < g.1 := by omega
      obtain ⟨r1, r2, r3⟩ := a4.2.2.2 n hk.1 hk.2
      refine x_aload_n d_D_build_59 0 rfl rfl ?_
      refine x_aload_n d_D_build_60 0 rfl rfl ?_
      refine x_getc 1 0 2 2 fl_D_10 tk_17_0 hd1 rfl rfl d_D_build_61 ?_
      refine x_iload_n d_D_build_64 2 rfl rfl ?_
      refine x_cva 2 (As := [vi n]) (c_AL_get 2 e2 g.1 cap2 hA2 n (σ (ρ n)).1 hk r1) cs_D_131 hA2.rc rfl rfl (lr rfl) d_D_build_65 (lr rfl) ⟨by show 4 + n + 0 ≤ 1580; omega, by show 70 + 64 * n + 0 ≤ 38400; omega⟩ ?_
      refine x_castR (ρ n) r2.1 rfl d_D_build_68 ?_
      refine x_cvi 1 (As := [.ref (σ (ρ n)).1]) (c_D_isLiving hD (ρ n) _ _ _ r2 a5.1) cs_D_159 (thisD hD) rfl rfl (lr rfl) d_D_build_71 (lr rfl) ⟨by show 4 + n + 0 ≤ 1580; omega, by show 70 + 64 * n + 0 ≤ 38400; omega⟩ ?_
      rw [zc_iff (isL_us a5 a4.1 hk)]
      have hz9 := zc_or (gUs g n)
      refine x_if_eq (tgt := 96) d_D_build_74 rfl (by omega) (fun c2 => ?_) (fun c2 => ?_)
      · refine x_iinc d_D_build_96 rfl [some (.ref (σ 1).1), some (.ref qa), some (vi ((n + 1 : Nat) : Int)), none, none] rfl rfl (lr rfl) ?_
        refine x_goto (tgt := 48) d_D_build_99 rfl ?_
        refine V.widen (4 + (n + 1)) (70 + 64 * (n + 1)) (by omega) (by omega) ?_
        refine ih _ (by omega) (n + 1) σ R u m e cap f1 rfl (by omega) ⟨a1, a2, a3, a4, a5, ⟨?_, a6.2⟩, a7, a8, a9⟩
        rw [Int.natCast_add]
        exact a6.1.no (fun q => zc_eq0.mp c2 (((gP.e a4.1).us n).mpr q))
      · refine x_aload_n d_D_build_77 0 rfl rfl ?_
        refine x_getc 1 1 3 3 fl_D_16 tk_17_1 hd1 rfl rfl d_D_build_78 ?_
        refine x_aload_n d_D_build_81 0 rfl rfl ?_
        refine x_getc 1 0 2 2 fl_D_10 tk_17_0 hd1 rfl rfl d_D_build_82 ?_
        refine x_iload_n d_D_build_85 2 rfl rfl ?_
        refine x_cva 2 (As := [vi n]) (c_AL_get 2 e2 g.1 cap2 hA2 n (σ (ρ n)).1 hk r1) cs_D_131 hA2.rc rfl rfl (lr rfl) d_D_build_86 (lr rfl) ⟨by show 4 + n + 0 ≤ 1580; omega, by show 70 + 64 * n + 0 ≤ 38400; omega⟩ ?_
        refine x_castR (ρ n) r2.1 rfl d_D_build_89 ?_
        refine x_cv 3 (As := [.ref (σ (ρ n)).1]) (c_AL_add 3 e f1 (ρ n) m cap hA3 (by rcases a6.2.2.1 with h | h <;> omega) (fun h => by omega) (by have := a2.1; omega) (a2.2 f1 (Int.le_refl _)) (fun h => a6.el a4 h) (obR r2.1)) cs_D_142 hA3.rc rfl rfl (lr rfl) d_D_build_92 (lr rfl) ⟨by show 4 + n + 1 ≤ 1580; omega, by show 70 + 64 * n + 64 ≤ 38400; omega⟩ (fun r σ2 R2 hZ2 => ?_)
        obtain ⟨z1, hadd⟩ := hZ2
        cases z1
        obtain ⟨e', cap', hU2⟩ := hU.add hf0 hk (zc_ne.mp c2) hadd
        have e1 : σ2 1 = σ 1 := by rw [hU2.1.at (hD0.1.at 0 (k := 1) (t := 17) (n := 0) rfl) (by decide), a1.at (hD0.1.at 0 (k := 1) (t := 17) (n := 0) rfl) (by decide)]
        rw [← e1]
        refine x_pop d_D_build_95 rfl ?_
        refine x_iinc d_D_build_96 rfl [some (.ref (σ2 1).1), some (.ref qa), some (vi ((n + 1 : Nat) : Int)), none, none] rfl rfl (lr rfl) ?_
        refine x_goto (tgt := 48) d_D_build_99 rfl ?_
        refine V.widen (4 + (n + 1)) (70 + 64 * (n + 1)) (by omega) (by omega) ?_
        refine ih _ (by omega) (n + 1) σ2 R2 (up1 u m n) (m + 1) e' cap' (f1 + 1) rfl (by omega) ?_
        rw [Int.natCast_add]
        exact hU2
