/-! the desk: rule -/
set_option maxHeartbeats 8000000 in
set_option maxRecDepth 100000 in
theorem c_D_rule {σ : xS} {R : xR} (hD : dSh σ) (f : Int) (hf : fr f σ) (n : Nat) (h : sbI σ R 10 n) (hel : ∀ i, 0 ≤ i → i < (n : Int) → 0 ≤ R 11 i ∧ R 11 i < 128) (g : xGr) (ρ : Int → Int) (e2 : Int) (cap2 : Nat) (hRu : dRu σ R g ρ e2 cap2) (hc2 : cap2 = 0 ∨ 10 ≤ cap2) (he2 : e2 < f) : CtT m_D_rule 8 21 186 [.ref (σ 1).1] σ R (ruZ σ R g ρ e2 n f) := by
  refine CtT.of [some (.ref (σ 1).1), none, none, none, none] rfl (by decide +kernel) (lr rfl) (fun X => ?_)
  obtain ⟨Z, hZ⟩ : ∃ Z : xZ, Z = ruZ σ R g ρ e2 n f := ⟨_, rfl⟩
  rw [← hZ]
  have hf9 := hf.1
  have he29 := hRu.2.2.1
  refine x_aload_n d_D_rule_0 0 rfl rfl ?_
  refine x_cv 1 (As := []) (c_D_taken hD f n (hf.2 f (Int.le_refl _)) (by omega) (by omega) (hf.2 (f + 1) (by omega)) h hel) cs_D_102 (thisD hD) rfl rfl (lr rfl) d_D_rule_1 (lr rfl) ⟨lr rfl, lr rfl⟩ (fun r σ1 R1 hq => ?_)
  obtain ⟨y1, ⟨q, a, y2⟩, y3, y4, y5, y6, y7⟩ := hq
  cases y1
  have s1 : ∀ b, b ≠ f → b ≠ f + 1 → σ1 b = σ b := fun b b1 b2 => by rw [y2, xsu_ne _ _ b1, xsu_ne _ _ b2]
  have hol : ol f σ σ1 := fun b hb => s1 b (by omega) (by omega)
  have hx1 := hol.sx hf
  have hD1 := hD.ext hx1
  have hn10 := h.2.2.2.2
  have hs1 : stI σ1 R1 f n := ⟨by rw [y2, xsu_self], by rw [y2, xsu_ne _ _ (by omega), xsu_self], y3, by omega⟩
  have hcg := rGood_cg (n := n) (b := R1 (f + 1)) (c := R 11) y4
  have hfr1 : fr (f + 2) σ1 := ⟨by omega, fun b hb => by rw [s1 b (by omega) (by omega)]; exact hf.2 b (by omega)⟩
  have k1 : ∀ b, b < f → b ≠ 10 → R1 b = R b := fun b b1 b2 => y7 b (by omega) (by omega) b2
  have hch1 : ∀ i, 0 ≤ i → i < (n : Int) → 0 ≤ R1 (f + 1) i ∧ R1 (f + 1) i < 128 := fun i i0 i1 => by rw [y4 i i0 i1]; exact hel i i0 i1
  have hd1 := hD1.1.at 0 (k := 1) (t := 17) (n := 0) rfl
  have hρ : ∀ i, 0 ≤ i → i < g.1 → ρ i < f ∧ ρ i + 1 < f := fun i i0 i1 => by
    obtain ⟨-, r2, -⟩ := hRu.2.2.2 i i0 i1
    exact ⟨hf.lt (by rw [r2.1]; decide), hf.lt (by rw [r2.2.1]; exact (by decide : (32 : Nat) ≠ 0))⟩
  -- the rules stay
  have ruk : ∀ (σ' : xS) (R' : xR), ol f σ σ' → (∀ b, b < f → b ≠ 10 → R' b = R b) → dRu σ' R' g ρ e2 cap2 := fun σ' R' o1 o2 => hRu.ext (o1.sx hf) (o2 2 (by omega) (by decide)) (fun _ => o2 e2 he2 (by omega)) (fun i i0 i1 => by
    have q := hρ i i0 i1
    have q2 := (hRu.2.2.2 i i0 i1).2.2
    exact ⟨o2 _ q.1 (by omega), o2 _ q.2 (by omega)⟩)
  refine x_astore_n d_D_rule_4 1 rfl [some (.ref (σ 1).1), some (.ref (σ1 f).1), none, none, none] rfl rfl (lr rfl) ?_
  rw [← s1 1 (by omega) (by omega)]
  -- it throws
  have thr8 : ∀ (σ' : xS) (R' : xR) (q : Nat), (¬ rGood n (R 11) ∨ rDup g (R 11 0 - 65) ((n : Int) - 2) (fun k => rSy (R 11 (k + 2)))) → ol f σ σ' → fr (f + 4) σ' → (∀ b, b < f → b ≠ 10 → R' b = R b) → R' 10 1 = 0 → R' 10 3 = 0 → Z (.threw q) (xsu σ' (f + 4) (q, 8, 0)) (xru R' (f + 4) (fun _ => 0)) := by
    intro σ' R' q hc o1 o2 o3 o4 o5
    rw [hZ]
    have kk : ∀ b, b < f → xru R' (f + 4) (fun _ => 0) b = R' b := fun b hb => xru_ne _ _ (by omega)
    exact ⟨fun b hb => by rw [xsu_ne _ _ (by omega)]; exact o1 b hb, o2.new (by omega) (by omega), fun b b1 _ _ b4 _ => by rw [kk b b1, o3 b b1 b4], by rw [kk 10 (by omega)]; exact o4, by rw [kk 10 (by omega)]; exact o5, Or.inl ⟨hc, ⟨q, f + 4, rfl, by rw [xsu_self], by rw [xsu_self]⟩, by rw [kk 1 (by omega), o3 1 (by omega) (by decide)], by rw [kk 2 (by omega), o3 2 (by omega) (by decide)], fun hb => by rw [kk e2 hb, o3 e2 hb (by omega)]⟩⟩
  -- behind the first test
  have h48 : ∀ z : Int, (z = 1 ∧ rBas n (R1 (f + 1))) ∨ (z = 0 ∧ ¬ rBas n (R1 (f + 1))) → V X m_D_rule (8, 21, 186, Z) σ1 R1 2 20 48 [some (.ref (σ1 1).1), some (.ref (σ1 f).1), none, none, none] [vi z] := by
    intro z hz
    refine x_callST (As := [vi z]) (c_D_need z (f + 4) (hz.elim (fun q => Or.inr q.1) (fun q => Or.inl q.1)) (by omega) (hfr1.2 _ (by omega))) cs_D_116 rfl rfl (lr rfl) d_D_rule_48 (lr rfl) ⟨lr rfl, lr rfl⟩ (fun w σx Rx hq => ?_) (fun w σx Rx hq => ?_)
    · rcases hq with ⟨q1, q2, q3, q4⟩ | ⟨-, q, q2, -⟩
      · cases q2
        rw [q3, q4]
        have hb : rBas n (R1 (f + 1)) := hz.elim (fun q => q.2) (fun q => by have := q.1; omega)
        have hn2 := hb.1
        refine x_aload_n d_D_rule_51 1 rfl rfl ?_
        refine x_cvi f (As := []) (c_Str_length f n hs1) cs_D_105 hs1.rc rfl rfl (lr rfl) d_D_rule_52 (lr rfl) ⟨lr rfl, lr rfl⟩ ?_
        refine x_iconst d_D_rule_55 ?_
        refine x_isub d_D_rule_56 ?_
        refine x_newa (f + 3) 32 (N := n - 2) (by omega) (hfr1.2 _ (by omega)) na_32 ac_int (by omega) (by omega) d_D_rule_57 ⟨lr rfl, by show 26 + (n - 2) ≤ 186; omega⟩ (fun qa => ?_)
        obtain ⟨σ2, hσ2⟩ : ∃ s, s = xsu σ1 (f + 3) (qa, 32, n - 2) := ⟨_, rfl⟩
        obtain ⟨R2, hR2⟩ : ∃ s, s = xru R1 (f + 3) (fun _ => 0) := ⟨_, rfl⟩
        rw [← hσ2, ← hR2]
        have s2 : ∀ b, b ≠ f + 3 → σ2 b = σ1 b := fun b hb => by rw [hσ2]; exact xsu_ne _ _ hb
        have s2r : σ2 (f + 2 + 1) = (qa, 32, n - 2) := by rw [show f + 2 + 1 = f + 3 by omega, hσ2]; exact xsu_self _ _ _
        have k2 : ∀ b, b ≠ f + 3 → R2 b = R1 b := fun b hb => by rw [hR2]; exact xru_ne _ _ hb
        have hol2 : ol f σ σ2 := fun b hb => by rw [s2 b (by omega)]; exact hol b hb
        have hD2 := hD.ext (hol2.sx hf)
        have hs2 : stI σ2 R2 f n := ⟨by rw [s2 f (by omega)]; exact hs1.1, by rw [s2 _ (by omega)]; exact hs1.2.1, by rw [k2 f (by omega)]; exact hs1.2.2.1, hs1.2.2.2⟩
        have hfr2 : fr (f + 4) σ2 := ⟨by omega, fun b hb => by rw [s2 b (by omega)]; exact hfr1.2 b (by omega)⟩
        have ef1 : R2 (f + 1) = R1 (f + 1) := k2 _ (by omega)
        refine x_astore_n d_D_rule_59 2 rfl [some (.ref (σ1 1).1), some (.ref (σ1 f).1), some (.ref qa), none, none] rfl rfl (lr rfl) ?_
        refine x_iconst d_D_rule_60 ?_
        refine x_istore_n d_D_rule_61 3 rfl [some (.ref (σ1 1).1), some (.ref (σ1 f).1), some (.ref qa), some (vi ((0 : Nat) : Int)), none] rfl rfl (lr rfl) ?_
        rw [← s2 1 (by omega), ← s2 f (by omega), show qa = (σ2 (f + 2 + 1)).1 by rw [s2r]]
        refine V.widen (4 + 0) (30 + 6 * 0) (by decide) (by show 26 + (n - 2) ≤ 30; omega) ?_
        refine v_D_rule1 hD2 f (f + 2) (f + 4) n hs2 (by omega) (fun i i0 i1 => by rw [ef1]; exact hch1 i i0 i1) (by rw [ef1]; exact hb) (by rw [s2r]) ⟨by omega, by omega⟩ hfr2 (fun hg R3 g1 g2 v3 => ?_) (fun hg R3 q g1 => ?_) _ 0 R2 rfl (by omega) (fun _ _ => rfl) (fun i i0 i1 => by have : i < 0 := i1; omega)
        · have hg' : rGood n (R 11) := hcg.mp (by rw [ef1] at hg; exact hg)
          have ef3 : R3 (f + 1) = R1 (f + 1) := by rw [g1 _ (by omega), ef1]
          have e0 : R1 (f + 1) 0 = R 11 0 := y4 0 (Int.le_refl _) (by omega)
          have k3 : ∀ b, b < f → b ≠ 10 → R3 b = R b := fun b b1 b2 => by rw [g1 b (by omega), k2 b (by omega), k1 b b1 b2]
          refine v_D_rule2 hD2 f (f + 2) n ⟨hs2.1, hs2.2.1, by rw [g1 f (by omega)]; exact hs2.2.2.1, hs2.2.2.2⟩ (by omega) (fun i i0 i1 => by rw [ef3]; exact hch1 i i0 i1) (by rw [ef3]; exact hb.2.1) (by omega) (by rw [s2 _ (by omega)]; exact hfr1.2 _ (by omega)) (by rw [s2r]) (by omega) (fun k => rSy (R 11 (k + 2))) (fun i i0 i1 => ?_) (fun σ3 R4 hσ3 g3 hrl => ?_) v3
          · rw [g2 i i0 i1, ef1, y4 (i + 2) (by omega) (by omega)]
            exact ⟨rfl, rSy_rng (hg'.2 (i + 2) (by omega) (by omega))⟩
          · obtain ⟨q3, hσ3⟩ := hσ3
            have s3 : ∀ b, b ≠ f + 2 → σ3 b = σ2 b := fun b hb => by rw [hσ3]; exact xsu_ne _ _ hb
            have hol3 : ol f σ σ3 := fun b hb => by rw [s3 b (by omega)]; exact hol2 b hb
            have hD3 := hD.ext (hol3.sx hf)
            have hfr3 : fr (f + 4) σ3 := ⟨by omega, fun b hb => by rw [s3 b (by omega)]; exact hfr2.2 b hb⟩
            have k4 : ∀ b, b < f → b ≠ 10 → R4 b = R b := fun b b1 b2 => by rw [g3 b (by omega), k3 b b1 b2]
            have hRu4 := ruk σ3 R4 hol3 k4
            rw [ef3, e0] at hrl
            have e10 : R4 10 = R1 10 := by rw [g3 10 (by omega), g1 10 (by omega), k2 10 (by omega)]
            have h5 : R4 10 1 = 0 := by rw [e10]; exact y5
            have h6 : R4 10 3 = 0 := by rw [e10]; exact y6
            refine V.widen (9 + 0) (56 + 6 * 0) (by decide) (by decide) (v_D_rule3 hD3 (f + 4) g ρ e2 cap2 hfr3 hRu4 (f + 2) (R 11 0 - 65) ((n : Int) - 2) (fun k => rSy (R 11 (k + 2))) hrl (by omega) _ _ (fun hnd => ?_) (fun hd q => thr8 σ3 R4 q (Or.inr hd) hol3 hfr3 k4 h5 h6) _ 0 rfl (by show (0 : Int) ≤ g.1; exact hRu.1.1) (fun i i0 i1 => by have : i < 0 := i1; omega))
            refine v_D_rule4 hD3 (f + 4) g ρ e2 cap2 hfr3 hRu4 hc2 (f + 2) (R 11 0 - 65) ((n : Int) - 2) (fun k => rSy (R 11 (k + 2))) hrl (by omega) (by have := hg'.1.2.1; omega) (by omega) _ _ (fun hlt σ' R' e2' cap2' b1 b2 b3 b4 b5 b6 b7 b8 => ?_) (fun h10 q => ?_)
            · rw [hZ]
              have hol' : ol f σ σ' := by
                rcases b3 with ⟨-, e⟩ | ⟨-, q, n', e⟩
                · rw [e]; exact hol3
                · intro b hb
                  rw [e, xsu_ne _ _ (by omega)]
                  exact hol3 b hb
              have hfr' : fr (f + 5) σ' := by
                rcases b3 with ⟨-, e⟩ | ⟨-, q, n', e⟩
                · rw [e]; exact hfr3.mono (by omega)
                · rw [e]; exact hfr3.new (by omega) (by omega)
              have he' : e2' = e2 ∨ e2' = f + 4 := b3.imp (fun q => q.1) (fun q => q.1)
              exact ⟨hol', hfr', fun b c1 c2 c3 c4 c5 => by rw [b4 b c2 c3 (by omega) (by omega), k4 b c1 c4], by rw [b4 10 (by decide) (by decide) (by omega) (by omega)]; exact h5, by rw [b4 10 (by decide) (by decide) (by omega) (by omega)]; exact h6, Or.inr (Or.inr ⟨hg', hnd, hlt, rfl, fun j j1 j2 j3 => by rw [b5 j j1 j2 j3, k4 1 (by omega) (by decide)], b6, b7, b8, _, e2', cap2', b1, b2, by omega⟩)⟩
            · rw [hZ]
              have kk : ∀ b, b < f → xru R4 (f + 4) (fun _ => 0) b = R4 b := fun b hb => xru_ne _ _ (by omega)
              exact ⟨fun b hb => by rw [xsu_ne _ _ (by omega)]; exact hol3 b hb, hfr3.new (by omega) (by omega), fun b c1 _ _ c4 _ => by rw [kk b c1, k4 b c1 c4], by rw [kk 10 (by omega)]; exact h5, by rw [kk 10 (by omega)]; exact h6, Or.inr (Or.inl ⟨hg', hnd, h10, ⟨q, f + 4, rfl, by rw [xsu_self], by rw [xsu_self]⟩, by rw [kk 1 (by omega), k4 1 (by omega) (by decide)], by rw [kk 2 (by omega), k4 2 (by omega) (by decide)], fun hb => by rw [kk e2 hb, k4 e2 hb (by omega)]⟩)⟩
        · have k3 : ∀ b, b < f + 3 → R3 b = R1 b := fun b b1 => by rw [g1 b (by omega), k2 b (by omega)]
          exact thr8 σ2 R3 q (Or.inl (fun w => hg (by rw [ef1]; exact hcg.mpr w))) hol2 hfr2 (fun b b1 b2 => by rw [k3 b (by omega), k1 b b1 b2]) (by rw [k3 10 (by omega)]; exact y5) (by rw [k3 10 (by omega)]; exact y6)
      · cases q2
    · rcases hq with ⟨-, q2, -⟩ | ⟨q1, q, q2, q3, q4⟩
      · cases q2
      · cases q2
        rw [q3, q4]
        exact Vt.leave (by decide +kernel) (lr rfl) (lr rfl) (thr8 σ1 R1 w (Or.inl (fun hg => hz.elim (fun q => q1 q.1) (fun q => q.2 (hcg.mpr hg).1))) hol (hfr1.mono (by omega)) k1 y5 y6)
  have no47 : ¬ rBas n (R1 (f + 1)) → V X m_D_rule (8, 21, 186, Z) σ1 R1 2 20 47 [some (.ref (σ1 1).1), some (.ref (σ1 f).1), none, none, none] [] := fun hb => x_iconst d_D_rule_47 (h48 0 (Or.inr ⟨rfl, hb⟩))
  refine x_aload_n d_D_rule_5 1 rfl rfl ?_
  refine x_cvi f (As := []) (c_Str_length f n hs1) cs_D_105 hs1.rc rfl rfl (lr rfl) d_D_rule_6 (lr rfl) ⟨lr rfl, lr rfl⟩ ?_
  refine x_iconst d_D_rule_9 ?_
  refine x_icmp_lt (tgt := 47) d_D_rule_10 rfl (by omega) (by omega) (fun c => no47 (fun q => by have := q.1; omega)) (fun c => ?_)
  refine x_aload_n d_D_rule_13 1 rfl rfl ?_
  refine x_cvi f (As := []) (c_Str_length f n hs1) cs_D_105 hs1.rc rfl rfl (lr rfl) d_D_rule_14 (lr rfl) ⟨lr rfl, lr rfl⟩ ?_
  refine x_bipush d_D_rule_17 rfl ?_
  refine x_icmp_gt (tgt := 47) d_D_rule_19 rfl (by omega) (by omega) (fun c => no47 (fun q => by have := q.1; omega)) (fun c2 => ?_)
  have hc0 := hch1 0 (Int.le_refl _) (by omega)
  have hc1 := hch1 1 (by omega) (by omega)
  have hcn := zb_cs (65 ≤ R1 (f + 1) 0 ∧ R1 (f + 1) 0 ≤ 70)
  refine x_aload_n d_D_rule_22 1 rfl rfl ?_
  refine x_iconst d_D_rule_23 ?_
  refine x_cvi f (As := [vi 0]) (c_Str_charAt f 0 n hs1 (by omega) hc0) cs_D_108 hs1.rc rfl rfl (lr rfl) d_D_rule_24 (lr rfl) ⟨lr rfl, lr rfl⟩ ?_
  refine x_csi (As := [vi (R1 (f + 1) 0)]) (c_D_isName (R1 (f + 1) 0) (by omega)) cs_D_112 rfl rfl (lr rfl) d_D_rule_27 (lr rfl) ⟨lr rfl, lr rfl⟩ ?_
  refine x_if_eq (tgt := 47) d_D_rule_30 rfl (by omega) (fun c => no47 (fun q => by have := q.2.1; omega)) (fun c3 => ?_)
  refine x_aload_n d_D_rule_33 1 rfl rfl ?_
  refine x_iconst d_D_rule_34 ?_
  refine x_cvi f (As := [vi 1]) (c_Str_charAt f 1 n hs1 (by omega) hc1) cs_D_108 hs1.rc rfl rfl (lr rfl) d_D_rule_35 (lr rfl) ⟨lr rfl, lr rfl⟩ ?_
  refine x_bipush d_D_rule_38 rfl ?_
  refine x_icmp_ne (tgt := 47) d_D_rule_40 rfl (by omega) (by omega) (fun c => no47 (fun q => by have := q.2.2; omega)) (fun c4 => ?_)
  refine x_iconst d_D_rule_43 ?_
  refine x_goto (tgt := 48) d_D_rule_44 rfl ?_
  exact h48 1 (Or.inl ⟨rfl, by omega, by omega, by omega⟩)
