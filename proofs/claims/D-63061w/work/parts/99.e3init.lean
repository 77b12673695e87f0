/-! the desk: <init>, the walk (printed by gen/dinit2.py) -/
theorem six {R a0 a1 a2 a3 a4 a5 : xR} {k : Int} (h0 : a0 = xup R k 0 1) (h1 : a1 = xup a0 k 1 1) (h2 : a2 = xup a1 k 2 1) (h3 : a3 = xup a2 k 3 1) (h4 : a4 = xup a3 k 4 1) (h5 : a5 = xup a4 k 5 1) : (∀ i, 0 ≤ i → i < 6 → a5 k i = 1) ∧ ∀ a, a ≠ k → a5 a = R a := by
  refine ⟨fun i i0 i1 => ?_, fun a ha => ?_⟩
  · by_cases c5 : i = 5
    · rw [c5, xr_s h5]
    · rw [xr_d h5 c5]
      by_cases c4 : i = 4
      · rw [c4, xr_s h4]
      · rw [xr_d h4 c4]
        by_cases c3 : i = 3
        · rw [c3, xr_s h3]
        · rw [xr_d h3 c3]
          by_cases c2 : i = 2
          · rw [c2, xr_s h2]
          · rw [xr_d h2 c2]
            by_cases c1 : i = 1
            · rw [c1, xr_s h1]
            · rw [xr_d h1 c1, show i = 0 by omega, xr_s h0]
  · funext i
    rw [xr_o h5 ha, xr_o h4 ha, xr_o h3 ha, xr_o h2 ha, xr_o h1 ha, xr_o h0 ha]
set_option maxHeartbeats 4000000 in
set_option maxRecDepth 100000 in
theorem v_D_costs {X : xCtx} {Z : xZ} {σ0 σ : xS} {R0 R : xR} {S : List (Int × Nat × Nat × Nat)} {rw : Int → Prop} (a1 : Nat) (cn sn : Nat) (hcn : cn + 3 ≤ 100) (hsn : sn + 14 ≤ 2042) (h : dI σ0 R0 S rw σ R) (h1 : (σ 1).2 = (1, 0)) (ha1 : (σ 1).1 = a1) (hf5 : (σ 5).2.1 = 0) (hf6 : (σ 6).2.1 = 0) (hf7 : (σ 7).2.1 = 0) (hdS : ∀ e ∈ S, (e.1 ≠ 5 ∧ e.1 ≠ 6 ∧ e.1 ≠ 7) ∧ (e.2.1 < 23 → e.2.1 ≠ 3) ∧ e.1 ≠ 1) (hrN : ∀ a, rw a → 100 ≤ a)
    (kk : ∀ (σ' : xS) (R' : xR), dI σ0 R0 ([(5, 3, 42, 2), (6, 99, 32, 6), (7, 99, 32, 6)] ++ S) rw σ' R' → V X m_D_init (4, 100, 2042, Z) σ' R' (cn + 3) (sn + 14) 107 [some (.ref a1)] []) : V X m_D_init (4, 100, 2042, Z) σ R cn sn 37 [some (.ref a1)] [] := by
  refine x_aload_n d_D_init_37 0 rfl rfl ?_
  refine x_iconst d_D_init_38 ?_
  refine x_anewA 5 (N := 2) (by decide) hf5 w_clI rfl (by decide) d_D_init_39 ⟨by show cn + 1 ≤ 100; omega, by show sn + 2 ≤ 2042; omega⟩ (fun q5 => ?_)
  obtain ⟨σa, hσa⟩ : ∃ s, s = xsu σ 5 (q5, 39, 2) := ⟨_, rfl⟩
  obtain ⟨Ra, hRa⟩ : ∃ s, s = xru R 5 (fun _ => 0) := ⟨_, rfl⟩
  rw [← hσa, ← hRa]
  refine x_dup d_D_init_42 rfl ?_
  refine x_iconst d_D_init_43 ?_
  refine x_bipush d_D_init_44 rfl ?_
  refine x_newa 6 32 (N := 6) (by decide) (by rw [hσa, xsu_ne _ _ (by decide)]; exact hf6) na_32 ac_int rfl (lr rfl) d_D_init_46 ⟨by show cn + 1 + 1 ≤ 100; omega, by show sn + 2 + 6 ≤ 2042; omega⟩ (fun q6 => ?_)
  obtain ⟨σb, hσb⟩ : ∃ s, s = xsu σa 6 (q6, 32, 6) := ⟨_, rfl⟩
  obtain ⟨Rb, hRb⟩ : ∃ s, s = xru Ra 6 (fun _ => 0) := ⟨_, rfl⟩
  rw [← hσb, ← hRb]
  have sb6 : σb 6 = (q6, 32, 6) := by rw [hσb]; exact xsu_self _ _ _
  have sb5 : σb 5 = (q5, 39, 2) := by rw [hσb, xsu_ne _ _ (by decide), hσa]; exact xsu_self _ _ _
  refine x_dup d_D_init_48 rfl ?_
  refine x_iconst d_D_init_49 ?_
  refine x_iconst d_D_init_50 ?_
  refine x_iast 6 (t := 32) (n := 6) (by rw [sb6]) (by rw [sb6]) ⟨by decide, rfl, by decide⟩ rfl (by omega) d_D_init_51 (fun r0 hr0 => ?_)
  refine x_dup d_D_init_52 rfl ?_
  refine x_iconst d_D_init_53 ?_
  refine x_iconst d_D_init_54 ?_
  refine x_iast 6 (t := 32) (n := 6) (by rw [sb6]) (by rw [sb6]) ⟨by decide, rfl, by decide⟩ rfl (by omega) d_D_init_55 (fun r1 hr1 => ?_)
  refine x_dup d_D_init_56 rfl ?_
  refine x_iconst d_D_init_57 ?_
  refine x_iconst d_D_init_58 ?_
  refine x_iast 6 (t := 32) (n := 6) (by rw [sb6]) (by rw [sb6]) ⟨by decide, rfl, by decide⟩ rfl (by omega) d_D_init_59 (fun r2 hr2 => ?_)
  refine x_dup d_D_init_60 rfl ?_
  refine x_iconst d_D_init_61 ?_
  refine x_iconst d_D_init_62 ?_
  refine x_iast 6 (t := 32) (n := 6) (by rw [sb6]) (by rw [sb6]) ⟨by decide, rfl, by decide⟩ rfl (by omega) d_D_init_63 (fun r3 hr3 => ?_)
  refine x_dup d_D_init_64 rfl ?_
  refine x_iconst d_D_init_65 ?_
  refine x_iconst d_D_init_66 ?_
  refine x_iast 6 (t := 32) (n := 6) (by rw [sb6]) (by rw [sb6]) ⟨by decide, rfl, by decide⟩ rfl (by omega) d_D_init_67 (fun r4 hr4 => ?_)
  refine x_dup d_D_init_68 rfl ?_
  refine x_iconst d_D_init_69 ?_
  refine x_iconst d_D_init_70 ?_
  refine x_iast 6 (t := 32) (n := 6) (by rw [sb6]) (by rw [sb6]) ⟨by decide, rfl, by decide⟩ rfl (by omega) d_D_init_71 (fun r5 hr5 => ?_)
  obtain ⟨x1, x2⟩ := six hr0 hr1 hr2 hr3 hr4 hr5
  refine x_aastA 5 6 (n := 2) (nv := 6) (by rw [sb5]) (by rw [sb5]) (by rw [sb6]) (by rw [sb6]) (by decide) (by omega) d_D_init_72 (fun Rc hRc => ?_)
  refine x_dup d_D_init_73 rfl ?_
  refine x_iconst d_D_init_74 ?_
  refine x_bipush d_D_init_75 rfl ?_
  refine x_newa 7 32 (N := 6) (by decide) (by rw [hσb, xsu_ne _ _ (by decide), hσa, xsu_ne _ _ (by decide)]; exact hf7) na_32 ac_int rfl (lr rfl) d_D_init_77 ⟨by show cn + 1 + 1 + 1 ≤ 100; omega, by show sn + 2 + 6 + 6 ≤ 2042; omega⟩ (fun q7 => ?_)
  obtain ⟨σc, hσc⟩ : ∃ s, s = xsu σb 7 (q7, 32, 6) := ⟨_, rfl⟩
  obtain ⟨Rd, hRd⟩ : ∃ s, s = xru Rc 7 (fun _ => 0) := ⟨_, rfl⟩
  rw [← hσc, ← hRd]
  have sc7 : σc 7 = (q7, 32, 6) := by rw [hσc]; exact xsu_self _ _ _
  have sc6 : σc 6 = (q6, 32, 6) := by rw [hσc, xsu_ne _ _ (by decide)]; exact sb6
  have sc5 : σc 5 = (q5, 39, 2) := by rw [hσc, xsu_ne _ _ (by decide)]; exact sb5
  have sco : ∀ a, a ≠ 5 → a ≠ 6 → a ≠ 7 → σc a = σ a := fun a b1 b2 b3 => by rw [hσc, xsu_ne _ _ b3, hσb, xsu_ne _ _ b2, hσa, xsu_ne _ _ b1]
  refine x_dup d_D_init_79 rfl ?_
  refine x_iconst d_D_init_80 ?_
  refine x_iconst d_D_init_81 ?_
  refine x_iast 7 (t := 32) (n := 6) (by rw [sc7]) (by rw [sc7]) ⟨by decide, rfl, by decide⟩ rfl (by omega) d_D_init_82 (fun s0 hs0 => ?_)
  refine x_dup d_D_init_83 rfl ?_
  refine x_iconst d_D_init_84 ?_
  refine x_iconst d_D_init_85 ?_
  refine x_iast 7 (t := 32) (n := 6) (by rw [sc7]) (by rw [sc7]) ⟨by decide, rfl, by decide⟩ rfl (by omega) d_D_init_86 (fun s1 hs1 => ?_)
  refine x_dup d_D_init_87 rfl ?_
  refine x_iconst d_D_init_88 ?_
  refine x_iconst d_D_init_89 ?_
  refine x_iast 7 (t := 32) (n := 6) (by rw [sc7]) (by rw [sc7]) ⟨by decide, rfl, by decide⟩ rfl (by omega) d_D_init_90 (fun s2 hs2 => ?_)
  refine x_dup d_D_init_91 rfl ?_
  refine x_iconst d_D_init_92 ?_
  refine x_iconst d_D_init_93 ?_
  refine x_iast 7 (t := 32) (n := 6) (by rw [sc7]) (by rw [sc7]) ⟨by decide, rfl, by decide⟩ rfl (by omega) d_D_init_94 (fun s3 hs3 => ?_)
  refine x_dup d_D_init_95 rfl ?_
  refine x_iconst d_D_init_96 ?_
  refine x_iconst d_D_init_97 ?_
  refine x_iast 7 (t := 32) (n := 6) (by rw [sc7]) (by rw [sc7]) ⟨by decide, rfl, by decide⟩ rfl (by omega) d_D_init_98 (fun s4 hs4 => ?_)
  refine x_dup d_D_init_99 rfl ?_
  refine x_iconst d_D_init_100 ?_
  refine x_iconst d_D_init_101 ?_
  refine x_iast 7 (t := 32) (n := 6) (by rw [sc7]) (by rw [sc7]) ⟨by decide, rfl, by decide⟩ rfl (by omega) d_D_init_102 (fun s5 hs5 => ?_)
  obtain ⟨y1, y2⟩ := six hs0 hs1 hs2 hs3 hs4 hs5
  refine x_aastA 5 7 (n := 2) (nv := 6) (by rw [sc5]) (by rw [sc5]) (by rw [sc7]) (by rw [sc7]) (by decide) (by omega) d_D_init_103 (fun Re hRe => ?_)
  have e51 : Re 5 1 = (q7 : Int) + 1 := xr_s hRe
  have e50 : Re 5 0 = (q6 : Int) + 1 := by rw [xr_d hRe (by decide), y2 5 (by decide), hRd, xru_ne _ _ (by decide), xr_s hRc]
  refine V.madeA 5 42 (a := q5) (t := 39) (n := 2) (by decide) sc5 (by decide) ⟨by decide, rfl⟩ (fun j hj => ?_) (fun j hj cc hc => ?_) ?_
  · have hj2 : j = 0 ∨ j = 1 := by omega
    rcases hj2 with rfl | rfl
    · show rz (Re 5 0) = .ref (σc 6).1
      rw [e50, sc6]
      rfl
    · show rz (Re 5 1) = .ref (σc 7).1
      rw [e51, sc7]
      rfl
  · have hj2 : j = 0 ∨ j = 1 := by omega
    rcases hj2 with rfl | rfl
    · have hc' : some (6 : Int) = some cc := hc
      rw [← Option.some.inj hc', sc6]; exact (by decide : (32 : Nat) ≠ 0)
    · have hc' : some (7 : Int) = some cc := hc
      rw [← Option.some.inj hc', sc7]; exact (by decide : (32 : Nat) ≠ 0)
  obtain ⟨σd, hσd⟩ : ∃ s, s = xsu σc 5 (q5, 42, 2) := ⟨_, rfl⟩
  rw [← hσd]
  have sdo : ∀ a, a ≠ 5 → a ≠ 6 → a ≠ 7 → σd a = σ a := fun a b1 b2 b3 => by rw [hσd, xsu_ne _ _ b1]; exact sco a b1 b2 b3
  refine x_putFr 1 3 3 ((q5 : Int) + 1) ff_D_28 rfl tk_1_3 (n := 0) (by rw [sdo 1 (by decide) (by decide) (by decide)]; exact h1) (by rw [sdo 1 (by decide) (by decide) (by decide)]; exact ha1) rfl rfl ⟨rfl, rfl⟩ d_D_init_104 (fun Q hQ => ?_)
  have ko : ∀ a, a ≠ 5 → a ≠ 6 → a ≠ 7 → Re a = R a := fun a b1 b2 b3 => by
    have e1 : Re a = s5 a := by funext i; exact xr_o hRe b1
    have e2 : Rc a = r5 a := by funext i; exact xr_o hRc b1
    rw [e1, y2 a b3, hRd, xru_ne _ _ b3, e2, x2 a b2, hRb, xru_ne _ _ b2, hRa, xru_ne _ _ b1]
  have e3 : (fun a => rw a ∨ False) = rw := by funext a; exact propext ⟨fun q => q.resolve_right id, Or.inl⟩
  have h2 := h.add (σ' := σd) (R' := Q) [(5, 3, 42, 2), (6, 99, 32, 6), (7, 99, 32, 6)] (fun _ => False) (fun a ha _ => sdo a (ha (5, 3, 42, 2) (by simp)) (ha (6, 99, 32, 6) (by simp)) (ha (7, 99, 32, 6) (by simp))) (fun a b1 ha _ => by
    rw [← ko a (ha (5, 3, 42, 2) (by simp)) (ha (6, 99, 32, 6) (by simp)) (ha (7, 99, 32, 6) (by simp))]
    funext i
    exact xr_o hQ b1) (fun i hi => by rw [xr_d hQ (hi (5, 3, 42, 2) (by simp)), ko 1 (by decide) (by decide) (by decide)]) (fun e he => ?_) (fun a ha => ha.elim) (by decide) (fun e he => ?_) (fun q => q) (fun e he q => q) (fun a ha => ⟨fun e he => ?_, fun q => q, by have := hrN a ha; omega⟩)
  · rw [e3] at h2
    exact kk σd Q h2
  · have he' : e = (5, 3, 42, 2) ∨ e = (6, 99, 32, 6) ∨ e = (7, 99, 32, 6) := by simpa using he
    rcases he' with rfl | rfl | rfl
    · refine ⟨by show (σd 5).2 = _; rw [hσd, xsu_self], fun _ => by show Q 1 3 = _; rw [xr_s hQ, hσd]; show _ = ((xsu σc 5 (q5, 42, 2) 5).1 : Int) + 1; rw [xsu_self], ?_⟩
      unfold dFv
      rw [if_neg (by decide), if_neg (by decide), if_neg (by decide), if_pos rfl]
      trivial
    · refine ⟨by show (σd 6).2 = _; rw [hσd, xsu_ne _ _ (by decide), sc6], fun hj => absurd hj (by decide), ?_⟩
      unfold dFv
      rw [if_neg (by decide), if_neg (by decide), if_pos (by decide)]
      intro i i0 i1
      show Q 6 i = 1
      rw [xr_o hQ (by decide), xr_o hRe (by decide), y2 6 (by decide), hRd, xru_ne _ _ (by decide), xr_o hRc (by decide)]
      exact x1 i i0 i1
    · refine ⟨by show (σd 7).2 = _; rw [hσd, xsu_ne _ _ (by decide), sc7], fun hj => absurd hj (by decide), ?_⟩
      unfold dFv
      rw [if_neg (by decide), if_neg (by decide), if_pos (by decide)]
      intro i i0 i1
      show Q 7 i = 1
      rw [xr_o hQ (by decide), xr_o hRe (by decide)]
      exact y1 i i0 i1
  · obtain ⟨g1, g2, g3⟩ := hdS e he
    refine ⟨fun e' he' => ?_, fun hj e' he' => ?_, g3⟩
    · have he2 : e' = (5, 3, 42, 2) ∨ e' = (6, 99, 32, 6) ∨ e' = (7, 99, 32, 6) := by simpa using he'
      rcases he2 with rfl | rfl | rfl
      · exact g1.1
      · exact g1.2.1
      · exact g1.2.2
    · have he2 : e' = (5, 3, 42, 2) ∨ e' = (6, 99, 32, 6) ∨ e' = (7, 99, 32, 6) := by simpa using he'
      have := g2 hj
      rcases he2 with rfl | rfl | rfl
      · show (e.2.1 : Int) ≠ ((3 : Nat) : Int); omega
      · show (e.2.1 : Int) ≠ ((99 : Nat) : Int); omega
      · show (e.2.1 : Int) ≠ ((99 : Nat) : Int); omega
  · have he2 : e = (5, 3, 42, 2) ∨ e = (6, 99, 32, 6) ∨ e = (7, 99, 32, 6) := by simpa using he
    have := hrN a ha
    rcases he2 with rfl | rfl | rfl
    · show a ≠ 5; omega
    · show a ≠ 6; omega
    · show a ≠ 7; omega
