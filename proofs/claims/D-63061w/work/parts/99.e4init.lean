/-! the desk: <init> (printed by gen/dinit3.py) -/
theorem xsm1 {σ : xS} {k base : Int} {q T t N K : Nat} (h1 : (1 : Int) ≠ k) (h2 : 1 < base) : xsm σ k base q T t N K 1 = σ 1 := by
  unfold xsm
  rw [if_neg h1, if_neg (by omega)]
/-- what <init> leaves: the desk, empty -/
def dNew (σ : xS) (R : xR) : xZ := fun o σ' R' => o = .returned none ∧ (σ' 1).1 = (σ 1).1 ∧ (σ' 1).2 = (17, 0) ∧ (∀ e ∈ dNl, (σ' e.1).2 = (e.2.2.1, e.2.2.2) ∧ dFv (σ 90).1 e.1 R') ∧ (∀ a, dRws a → ((400 ≤ a ∧ a < 440) → (σ' a).2 = (36, 13)) ∧ ((450 ≤ a ∧ a < 491) → (σ' a).2 = (35, 6)) ∧ ∀ i, R' a i = 0) ∧ (∀ a, a ≠ 1 → (∀ e ∈ dNl, a ≠ e.1) → ¬ dRws a → σ' a = σ a ∧ R' a = R a) ∧ ∀ i : Int, (i = 5 ∨ i = 10 ∨ i = 11 ∨ i = 12 ∨ i = 13 ∨ i = 21 ∨ i = 22) → R' 1 i = R 1 i
set_option maxHeartbeats 8000000 in
set_option maxRecDepth 100000 in
theorem c_D_init {σ : xS} {R : xR} (h1 : (σ 1).2 = (1, 0)) (hfr : ∀ e ∈ dNl, (σ e.1).2.1 = 0) (hrw : ∀ a, dRws a → (σ a).2.1 = 0) : Ct m_D_init 4 100 2042 [.ref (σ 1).1] σ R (dNew σ R) := by
  refine Ct.of [some (.ref (σ 1).1)] rfl (by decide +kernel) (lr rfl) (fun X => ?_)
  obtain ⟨Z, hZ⟩ : ∃ Z : xZ, Z = dNew σ R := ⟨_, rfl⟩
  rw [← hZ]
  refine x_aload_n d_D_init_0 0 rfl rfl ?_
  refine x_objInit oi_D oi_in oi_co (lr rfl) d_D_init_1 (lr rfl) ?_
  have i0 : dI σ R [] (fun _ => False) σ R := dI.nil
  refine x_aload_n d_D_init_4 0 rfl rfl ?_
  refine x_new 2 4 (ci := 3) t_AL (by decide) (by rw [(i0.2.2.2.1 2 (by decide) (by decide) (fun q => by have q' : False := q; exact q'.elim)).1]; exact hfr (2, 0, 4, 0) (by decide)) (by decide) rfl i_AL t_AL_ok raw_AL w_clAL w_inAL w_iniAL d_D_init_5 ⟨lr rfl, lr rfl⟩ (fun q1 => ?_)
  refine x_dup d_D_init_8 rfl ?_
  have hc1 := c_AL_init (σ := xsu σ 2 (q1, 4, 0)) (R := xru R 2 (fun _ => 0)) 2 (by rw [xsu_self])
  rw [show (xsu σ 2 (q1, 4, 0) 2).1 = q1 by rw [xsu_self]] at hc1
  refine x_ci (As := []) hc1 cs_D_9 rfl rfl (lr rfl) d_D_init_9 (lr rfl) ⟨lr rfl, lr rfl⟩ (fun r σx Rx hz => ?_)
  obtain ⟨z1, z2, z3⟩ := hz
  cases z1
  rw [z2, z3]
  clear z2 z3 hc1
  refine x_putFr 1 0 0 ((q1 : Int) + 1) ff_D_10 rfl tk_1_0 (by rw [xsu_ne _ _ (by decide), i0.1]; exact h1) (by rw [xsu_ne _ _ (by decide), i0.1]) rfl rfl ⟨rfl, rfl⟩ d_D_init_12 (fun Q1 hQ1 => ?_)
  have i1 := i0.al (k := 2) (j := 0) (q := q1) hQ1 (by decide) (i0.2.2.2.1 90 (by decide) (by decide) (fun q => by have q' : False := q; exact q'.elim)).1 (by decide) (fun a q => by have q' : False := q; exact q'.elim)
  clear hQ1
  generalize xsu σ 2 (q1, 4, 0) = σ1 at i1 ⊢
  refine x_aload_n d_D_init_15 0 rfl rfl ?_
  refine x_new 3 4 (ci := 3) t_AL (by decide) (by rw [(i1.2.2.2.1 3 (by decide) (by decide) (fun q => by have q' : False := q; exact q'.elim)).1]; exact hfr (3, 1, 4, 0) (by decide)) (by decide) rfl i_AL t_AL_ok raw_AL w_clAL w_inAL w_iniAL d_D_init_16 ⟨lr rfl, lr rfl⟩ (fun q2 => ?_)
  refine x_dup d_D_init_19 rfl ?_
  have hc2 := c_AL_init (σ := xsu σ1 3 (q2, 4, 0)) (R := xru Q1 3 (fun _ => 0)) 3 (by rw [xsu_self])
  rw [show (xsu σ1 3 (q2, 4, 0) 3).1 = q2 by rw [xsu_self]] at hc2
  refine x_ci (As := []) hc2 cs_D_9 rfl rfl (lr rfl) d_D_init_20 (lr rfl) ⟨lr rfl, lr rfl⟩ (fun r σx Rx hz => ?_)
  obtain ⟨z1, z2, z3⟩ := hz
  cases z1
  rw [z2, z3]
  clear z2 z3 hc2
  refine x_putFr 1 1 1 ((q2 : Int) + 1) ff_D_16 rfl tk_1_1 (by rw [xsu_ne _ _ (by decide), i1.1]; exact h1) (by rw [xsu_ne _ _ (by decide), i1.1]) rfl rfl ⟨rfl, rfl⟩ d_D_init_23 (fun Q2 hQ2 => ?_)
  have i2 := i1.al (k := 3) (j := 1) (q := q2) hQ2 (by decide) (i1.2.2.2.1 90 (by decide) (by decide) (fun q => by have q' : False := q; exact q'.elim)).1 (by decide) (fun a q => by have q' : False := q; exact q'.elim)
  clear hQ2
  generalize xsu σ1 3 (q2, 4, 0) = σ2 at i2 ⊢
  refine x_aload_n d_D_init_26 0 rfl rfl ?_
  refine x_new 10 5 (ci := 4) t_SB (by decide) (by rw [(i2.2.2.2.1 10 (by decide) (by decide) (fun q => by have q' : False := q; exact q'.elim)).1]; exact hfr (10, 2, 21, 0) (by decide)) (by decide) rfl i_SB t_SB_ok raw_SB w_clSB w_inSB w_iniSB d_D_init_27 ⟨lr rfl, lr rfl⟩ (fun q3 => ?_)
  refine x_dup d_D_init_30 rfl ?_
  have hf11 : (xsu σ2 10 (q3, 5, 0) 11).2.1 = 0 := by rw [xsu_ne _ _ (by decide)]; exact (by rw [(i2.2.2.2.1 11 (by decide) (by decide) (fun q => by have q' : False := q; exact q'.elim)).1]; exact hfr (11, 99, 35, 16) (by decide))
  have hc3 := c_SB_init (σ := xsu σ2 10 (q3, 5, 0)) (R := xru Q2 10 (fun _ => 0)) 10 (by rw [xsu_self]) (by decide) (by decide) hf11
  rw [show (xsu σ2 10 (q3, 5, 0) 10).1 = q3 by rw [xsu_self]] at hc3
  refine x_ci (As := []) hc3 cs_D_21 rfl rfl (lr rfl) d_D_init_31 (lr rfl) ⟨lr rfl, lr rfl⟩ (fun r σ3 Rx hz => ?_)
  obtain ⟨z1, ⟨qv, z2⟩, z3, z4, z5, z6⟩ := hz
  cases z1
  have s310 : σ3 10 = (q3, 21, 0) := by rw [z2, xsu_self, xsu_self]
  have s311 : σ3 11 = (qv, 35, 16) := by rw [z2, xsu_ne _ _ (by decide)]; exact xsu_self _ _ _
  have s3o : ∀ a, a ≠ 10 → a ≠ 11 → σ3 a = σ2 a := fun a b1 b2 => by rw [z2, xsu_ne _ _ b1, xsu_ne _ _ (show a ≠ 10 + 1 from b2), xsu_ne _ _ b1]
  have z7 : ∀ a, a ≠ 10 → a ≠ 11 → Rx a = Q2 a := fun a b1 b2 => by rw [z6 a b1 b2, xru_ne _ _ b1]
  have z8 : Rx 10 3 = 0 := by rw [z4, xru_self]
  refine x_putFr 1 2 2 ((q3 : Int) + 1) ff_D_22 rfl tk_1_2 (n := 0) (by rw [s3o 1 (by decide) (by decide), i2.1]; exact h1) (by rw [s3o 1 (by decide) (by decide), i2.1]) rfl rfl ⟨rfl, rfl⟩ d_D_init_34 (fun Q3 hQ3 => ?_)
  have i3 : dI σ R ([(10, 2, 21, 0), (11, 99, 35, 16)] ++ [(3, 1, 4, 0), (2, 0, 4, 0)]) (fun a => False ∨ False) σ3 Q3 := i2.add (σ' := σ3) (R' := Q3) [(10, 2, 21, 0), (11, 99, 35, 16)] (fun _ => False) (fun a ha _ => s3o a (ha (10, 2, 21, 0) (by simp)) (ha (11, 99, 35, 16) (by simp))) (fun a b1 ha _ => by
    rw [← z7 a (ha (10, 2, 21, 0) (by simp)) (ha (11, 99, 35, 16) (by simp))]
    funext i
    exact xr_o hQ3 b1) (fun i hi => by rw [xr_d hQ3 (hi (10, 2, 21, 0) (by simp)), z7 1 (by decide) (by decide)]) (fun e he => by
    have he' : e = (10, 2, 21, 0) ∨ e = (11, 99, 35, 16) := by simpa using he
    rcases he' with rfl | rfl
    · refine ⟨by show (σ3 10).2 = _; rw [s310], fun _ => by show Q3 1 2 = ((σ3 10).1 : Int) + 1; rw [xr_s hQ3, s310], ?_⟩
      unfold dFv
      rw [if_neg (by decide), if_pos (by decide)]
      exact ⟨by show Q3 10 1 = 0; rw [xr_o hQ3 (by decide)]; exact z3, by show Q3 10 3 = 0; rw [xr_o hQ3 (by decide)]; exact z8⟩
    · refine ⟨by show (σ3 11).2 = _; rw [s311], fun hj => absurd hj (by decide), ?_⟩
      unfold dFv
      rw [if_neg (by decide), if_neg (by decide), if_neg (by decide), if_neg (by decide)]
      intro i
      show Q3 11 i = 0
      rw [xr_o hQ3 (by decide)]
      exact z5 i) (fun a ha => ha.elim) (by decide) (by decide) (fun q => q) (fun e he q => q) (fun a q => q.elim)
  rw [show (fun a : Int => False ∨ False) = (fun _ => False) by funext a; exact propext ⟨fun q => q.elim id id, Or.inl⟩] at i3
  clear hQ3 z2 z3 z4 z5 z6 z7 z8 hc3
  refine v_D_costs (σ 1).1 4 26 (lr rfl) (lr rfl) i3 (by rw [i3.1]; exact h1) (by rw [i3.1]) (by rw [(i3.2.2.2.1 5 (by decide) (by decide) (fun q => by have q' : False := q; exact q'.elim)).1]; exact hfr (5, 3, 42, 2) (by decide)) (by rw [(i3.2.2.2.1 6 (by decide) (by decide) (fun q => by have q' : False := q; exact q'.elim)).1]; exact hfr (6, 99, 32, 6) (by decide)) (by rw [(i3.2.2.2.1 7 (by decide) (by decide) (fun q => by have q' : False := q; exact q'.elim)).1]; exact hfr (7, 99, 32, 6) (by decide)) (by decide) (fun a q => q.elim) (fun σ4 Q4 i4 => ?_)
  refine x_aload_n d_D_init_107 0 rfl rfl ?_
  refine x_bipush d_D_init_108 rfl ?_
  refine x_newa 8 32 (N := 16) (by decide) (by rw [(i4.2.2.2.1 8 (by decide) (by decide) (fun q => by have q' : False := q; exact q'.elim)).1]; exact hfr (8, 4, 32, 16) (by decide)) na_32 ac_int rfl (lr rfl) d_D_init_110 ⟨lr rfl, lr rfl⟩ (fun q5 => ?_)
  refine x_putFr 1 4 4 ((q5 : Int) + 1) ff_D_32 rfl tk_1_4 (by rw [xsu_ne _ _ (by decide), i4.1]; exact h1) (by rw [xsu_ne _ _ (by decide), i4.1]) rfl rfl ⟨rfl, rfl⟩ d_D_init_112 (fun Q5 hQ5 => ?_)
  have i5 := i4.arr (t := 32) (n := 16) (j := 4) (q := q5) hQ5 (fun R' h => by unfold dFv; rw [if_neg (by decide), if_neg (by decide), if_neg (by decide), if_neg (by decide)]; exact h) (by decide) (by decide) (fun a q => by have q' : False := q; exact q'.elim)
  clear hQ5
  generalize xsu σ4 8 (q5, 32, 16) = σ5 at i5 ⊢
  refine x_aload_n d_D_init_115 0 rfl rfl ?_
  refine x_bipush d_D_init_116 rfl ?_
  refine x_newa 12 33 (N := 6) (by decide) (by rw [(i5.2.2.2.1 12 (by decide) (by decide) (fun q => by have q' : False := q; exact q'.elim)).1]; exact hfr (12, 6, 33, 6) (by decide)) na_33 ac_boolean rfl (lr rfl) d_D_init_118 ⟨lr rfl, lr rfl⟩ (fun q6 => ?_)
  refine x_putFr 1 6 6 ((q6 : Int) + 1) ff_D_35 rfl tk_1_6 (by rw [xsu_ne _ _ (by decide), i5.1]; exact h1) (by rw [xsu_ne _ _ (by decide), i5.1]) rfl rfl ⟨rfl, rfl⟩ d_D_init_120 (fun Q6 hQ6 => ?_)
  have i6 := i5.arr (t := 33) (n := 6) (j := 6) (q := q6) hQ6 (fun R' h => by unfold dFv; rw [if_neg (by decide), if_neg (by decide), if_neg (by decide), if_neg (by decide)]; exact h) (by decide) (by decide) (fun a q => by have q' : False := q; exact q'.elim)
  clear hQ6
  generalize xsu σ5 12 (q6, 33, 6) = σ6 at i6 ⊢
  refine x_aload_n d_D_init_123 0 rfl rfl ?_
  refine x_bipush d_D_init_124 rfl ?_
  refine x_newa 13 33 (N := 6) (by decide) (by rw [(i6.2.2.2.1 13 (by decide) (by decide) (fun q => by have q' : False := q; exact q'.elim)).1]; exact hfr (13, 7, 33, 6) (by decide)) na_33 ac_boolean rfl (lr rfl) d_D_init_126 ⟨lr rfl, lr rfl⟩ (fun q7 => ?_)
  refine x_putFr 1 7 7 ((q7 : Int) + 1) ff_D_39 rfl tk_1_7 (by rw [xsu_ne _ _ (by decide), i6.1]; exact h1) (by rw [xsu_ne _ _ (by decide), i6.1]) rfl rfl ⟨rfl, rfl⟩ d_D_init_128 (fun Q7 hQ7 => ?_)
  have i7 := i6.arr (t := 33) (n := 6) (j := 7) (q := q7) hQ7 (fun R' h => by unfold dFv; rw [if_neg (by decide), if_neg (by decide), if_neg (by decide), if_neg (by decide)]; exact h) (by decide) (by decide) (fun a q => by have q' : False := q; exact q'.elim)
  clear hQ7
  generalize xsu σ6 13 (q7, 33, 6) = σ7 at i7 ⊢
  refine x_aload_n d_D_init_131 0 rfl rfl ?_
  refine x_bipush d_D_init_132 rfl ?_
  refine x_newa 14 32 (N := 6) (by decide) (by rw [(i7.2.2.2.1 14 (by decide) (by decide) (fun q => by have q' : False := q; exact q'.elim)).1]; exact hfr (14, 8, 32, 6) (by decide)) na_32 ac_int rfl (lr rfl) d_D_init_134 ⟨lr rfl, lr rfl⟩ (fun q8 => ?_)
  refine x_putFr 1 8 8 ((q8 : Int) + 1) ff_D_42 rfl tk_1_8 (by rw [xsu_ne _ _ (by decide), i7.1]; exact h1) (by rw [xsu_ne _ _ (by decide), i7.1]) rfl rfl ⟨rfl, rfl⟩ d_D_init_136 (fun Q8 hQ8 => ?_)
  have i8 := i7.arr (t := 32) (n := 6) (j := 8) (q := q8) hQ8 (fun R' h => by unfold dFv; rw [if_neg (by decide), if_neg (by decide), if_neg (by decide), if_neg (by decide)]; exact h) (by decide) (by decide) (fun a q => by have q' : False := q; exact q'.elim)
  clear hQ8
  generalize xsu σ7 14 (q8, 32, 6) = σ8 at i8 ⊢
  refine x_aload_n d_D_init_139 0 rfl rfl ?_
  refine x_new 4 4 (ci := 3) t_AL (by decide) (by rw [(i8.2.2.2.1 4 (by decide) (by decide) (fun q => by have q' : False := q; exact q'.elim)).1]; exact hfr (4, 9, 4, 0) (by decide)) (by decide) rfl i_AL t_AL_ok raw_AL w_clAL w_inAL w_iniAL d_D_init_140 ⟨lr rfl, lr rfl⟩ (fun q9 => ?_)
  refine x_dup d_D_init_143 rfl ?_
  have hc9 := c_AL_init (σ := xsu σ8 4 (q9, 4, 0)) (R := xru Q8 4 (fun _ => 0)) 4 (by rw [xsu_self])
  rw [show (xsu σ8 4 (q9, 4, 0) 4).1 = q9 by rw [xsu_self]] at hc9
  refine x_ci (As := []) hc9 cs_D_9 rfl rfl (lr rfl) d_D_init_144 (lr rfl) ⟨lr rfl, lr rfl⟩ (fun r σx Rx hz => ?_)
  obtain ⟨z1, z2, z3⟩ := hz
  cases z1
  rw [z2, z3]
  clear z2 z3 hc9
  refine x_putFr 1 9 9 ((q9 : Int) + 1) ff_D_45 rfl tk_1_9 (by rw [xsu_ne _ _ (by decide), i8.1]; exact h1) (by rw [xsu_ne _ _ (by decide), i8.1]) rfl rfl ⟨rfl, rfl⟩ d_D_init_147 (fun Q9 hQ9 => ?_)
  have i9 := i8.al (k := 4) (j := 9) (q := q9) hQ9 (by decide) (i8.2.2.2.1 90 (by decide) (by decide) (fun q => by have q' : False := q; exact q'.elim)).1 (by decide) (fun a q => by have q' : False := q; exact q'.elim)
  clear hQ9
  generalize xsu σ8 4 (q9, 4, 0) = σ9 at i9 ⊢
  refine x_aload_n d_D_init_150 0 rfl rfl ?_
  refine x_bipush d_D_init_151 rfl ?_
  refine x_bipush d_D_init_153 rfl ?_
  refine x_multi 15 400 43 36 (N := 40) (K := 13) (ty := .short) 97 (by decide) (by decide) (by rw [(i9.2.2.2.1 15 (by decide) (by decide) (fun q => by have q' : False := q; exact q'.elim)).1]; exact hfr (15, 14, 43, 40) (by decide)) (by decide) (fun a b1 b2 => ?_) ⟨by decide, rfl, fun j _ => by show _ = 400 + j + 4; show 404 + j = _; omega⟩ ⟨by decide, rfl, fun _ => rfl⟩ rfl (by decide) rfl rfl w_clS2 (by decide +kernel) ac_short ⟨by decide, by decide⟩ (by decide) (by decide) d_D_init_155 ⟨lr rfl, lr rfl⟩ (fun q10 => ?_)
  · have b2' : a < 400 + ((40 : Nat) : Int) := b2
    rw [(i9.2.2.2.1 a (by omega) (fun e he => ?_) (fun q => by have q' : False := q; exact q'.elim)).1]
    · exact hrw a (by unfold dRws; omega)
    · have : ∀ e ∈ ([(4, 9, 4, 0), (14, 8, 32, 6), (13, 7, 33, 6), (12, 6, 33, 6), (8, 4, 32, 16), (5, 3, 42, 2), (6, 99, 32, 6), (7, 99, 32, 6), (10, 2, 21, 0), (11, 99, 35, 16), (3, 1, 4, 0), (2, 0, 4, 0)] : List (Int × Nat × Nat × Nat)), e.1 < 100 := by decide
      have := this e he
      omega
  refine x_putFr 1 14 14 ((q10 : Int) + 1) ff_D_50 rfl tk_1_14 (by rw [xsm1 (by decide) (by decide), i9.1]; exact h1) (by rw [xsm1 (by decide) (by decide), i9.1]) rfl rfl ⟨rfl, rfl⟩ d_D_init_159 (fun Q10 hQ10 => ?_)
  have i10 := i9.mul (k := 15) (base := 400) (j := 14) (q := q10) (T := 43) (t := 36) (N := 40) (K := 13) hQ10 (by decide) (by decide) (by decide) (fun a q => by have q' : False := q; exact q'.elim)
  clear hQ10
  generalize xsm σ9 15 400 q10 43 36 40 13 = σ10 at i10 ⊢
  refine x_aload_n d_D_init_162 0 rfl rfl ?_
  refine x_sipush d_D_init_163 rfl ?_
  refine x_newa 16 32 (N := 1000) (by decide) (by rw [(i10.2.2.2.1 16 (by decide) (by decide) (fun q => by have q' : (False ∨ ((400 : Int) ≤ (16 : Int) ∧ (16 : Int) < 400 + ((40 : Nat) : Int))) := q; rcases q' with q' | q'; (exact q'.elim); omega)).1]; exact hfr (16, 15, 32, 1000) (by decide)) na_32 ac_int rfl (lr rfl) d_D_init_166 ⟨lr rfl, lr rfl⟩ (fun q11 => ?_)
  refine x_putFr 1 15 15 ((q11 : Int) + 1) ff_D_53 rfl tk_1_15 (by rw [xsu_ne _ _ (by decide), i10.1]; exact h1) (by rw [xsu_ne _ _ (by decide), i10.1]) rfl rfl ⟨rfl, rfl⟩ d_D_init_168 (fun Q11 hQ11 => ?_)
  have i11 := i10.arr (t := 32) (n := 1000) (j := 15) (q := q11) hQ11 (fun R' h => by unfold dFv; rw [if_neg (by decide), if_neg (by decide), if_neg (by decide), if_neg (by decide)]; exact h) (by decide) (by decide) (fun a q => by have q' : (False ∨ ((400 : Int) ≤ a ∧ a < 400 + ((40 : Nat) : Int))) := q; rcases q' with q' | q'; (exact q'.elim); omega)
  clear hQ11
  generalize xsu σ10 16 (q11, 32, 1000) = σ11 at i11 ⊢
  refine x_aload_n d_D_init_171 0 rfl rfl ?_
  refine x_bipush d_D_init_172 rfl ?_
  refine x_newa 17 32 (N := 30) (by decide) (by rw [(i11.2.2.2.1 17 (by decide) (by decide) (fun q => by have q' : (False ∨ ((400 : Int) ≤ (17 : Int) ∧ (17 : Int) < 400 + ((40 : Nat) : Int))) := q; rcases q' with q' | q'; (exact q'.elim); omega)).1]; exact hfr (17, 16, 32, 30) (by decide)) na_32 ac_int rfl (lr rfl) d_D_init_174 ⟨lr rfl, lr rfl⟩ (fun q12 => ?_)
  refine x_putFr 1 16 16 ((q12 : Int) + 1) ff_D_56 rfl tk_1_16 (by rw [xsu_ne _ _ (by decide), i11.1]; exact h1) (by rw [xsu_ne _ _ (by decide), i11.1]) rfl rfl ⟨rfl, rfl⟩ d_D_init_176 (fun Q12 hQ12 => ?_)
  have i12 := i11.arr (t := 32) (n := 30) (j := 16) (q := q12) hQ12 (fun R' h => by unfold dFv; rw [if_neg (by decide), if_neg (by decide), if_neg (by decide), if_neg (by decide)]; exact h) (by decide) (by decide) (fun a q => by have q' : (False ∨ ((400 : Int) ≤ a ∧ a < 400 + ((40 : Nat) : Int))) := q; rcases q' with q' | q'; (exact q'.elim); omega)
  clear hQ12
  generalize xsu σ11 17 (q12, 32, 30) = σ12 at i12 ⊢
  refine x_aload_n d_D_init_179 0 rfl rfl ?_
  refine x_bipush d_D_init_180 rfl ?_
  refine x_newa 18 32 (N := 6) (by decide) (by rw [(i12.2.2.2.1 18 (by decide) (by decide) (fun q => by have q' : (False ∨ ((400 : Int) ≤ (18 : Int) ∧ (18 : Int) < 400 + ((40 : Nat) : Int))) := q; rcases q' with q' | q'; (exact q'.elim); omega)).1]; exact hfr (18, 17, 32, 6) (by decide)) na_32 ac_int rfl (lr rfl) d_D_init_182 ⟨lr rfl, lr rfl⟩ (fun q13 => ?_)
  refine x_putFr 1 17 17 ((q13 : Int) + 1) ff_D_59 rfl tk_1_17 (by rw [xsu_ne _ _ (by decide), i12.1]; exact h1) (by rw [xsu_ne _ _ (by decide), i12.1]) rfl rfl ⟨rfl, rfl⟩ d_D_init_184 (fun Q13 hQ13 => ?_)
  have i13 := i12.arr (t := 32) (n := 6) (j := 17) (q := q13) hQ13 (fun R' h => by unfold dFv; rw [if_neg (by decide), if_neg (by decide), if_neg (by decide), if_neg (by decide)]; exact h) (by decide) (by decide) (fun a q => by have q' : (False ∨ ((400 : Int) ≤ a ∧ a < 400 + ((40 : Nat) : Int))) := q; rcases q' with q' | q'; (exact q'.elim); omega)
  clear hQ13
  generalize xsu σ12 18 (q13, 32, 6) = σ13 at i13 ⊢
  refine x_aload_n d_D_init_187 0 rfl rfl ?_
  refine x_bipush d_D_init_188 rfl ?_
  refine x_bipush d_D_init_190 rfl ?_
  refine x_multi 19 450 44 35 (N := 41) (K := 6) (ty := .byte) 99 (by decide) (by decide) (by rw [(i13.2.2.2.1 19 (by decide) (by decide) (fun q => by have q' : (False ∨ ((400 : Int) ≤ (19 : Int) ∧ (19 : Int) < 400 + ((40 : Nat) : Int))) := q; rcases q' with q' | q'; (exact q'.elim); omega)).1]; exact hfr (19, 18, 44, 41) (by decide)) (by decide) (fun a b1 b2 => ?_) ⟨by decide, rfl, fun j _ => by show _ = 450 + j + 4; show 454 + j = _; omega⟩ ⟨by decide, rfl, fun _ => rfl⟩ rfl (by decide) rfl rfl w_clB2 (by decide +kernel) ac_byte ⟨by decide, by decide⟩ (by decide) (by decide) d_D_init_192 ⟨lr rfl, lr rfl⟩ (fun q14 => ?_)
  · have b2' : a < 450 + ((41 : Nat) : Int) := b2
    rw [(i13.2.2.2.1 a (by omega) (fun e he => ?_) (fun q => by have q' : (False ∨ ((400 : Int) ≤ a ∧ a < 400 + ((40 : Nat) : Int))) := q; rcases q' with q' | q'; (exact q'.elim); omega)).1]
    · exact hrw a (by unfold dRws; omega)
    · have : ∀ e ∈ ([(18, 17, 32, 6), (17, 16, 32, 30), (16, 15, 32, 1000), (15, 14, 43, 40), (4, 9, 4, 0), (14, 8, 32, 6), (13, 7, 33, 6), (12, 6, 33, 6), (8, 4, 32, 16), (5, 3, 42, 2), (6, 99, 32, 6), (7, 99, 32, 6), (10, 2, 21, 0), (11, 99, 35, 16), (3, 1, 4, 0), (2, 0, 4, 0)] : List (Int × Nat × Nat × Nat)), e.1 < 100 := by decide
      have := this e he
      omega
  refine x_putFr 1 18 18 ((q14 : Int) + 1) ff_D_64 rfl tk_1_18 (by rw [xsm1 (by decide) (by decide), i13.1]; exact h1) (by rw [xsm1 (by decide) (by decide), i13.1]) rfl rfl ⟨rfl, rfl⟩ d_D_init_196 (fun Q14 hQ14 => ?_)
  have i14 := i13.mul (k := 19) (base := 450) (j := 18) (q := q14) (T := 44) (t := 35) (N := 41) (K := 6) hQ14 (by decide) (by decide) (by decide) (fun a q => by have q' : (False ∨ ((400 : Int) ≤ a ∧ a < 400 + ((40 : Nat) : Int))) := q; rcases q' with q' | q'; (exact q'.elim); omega)
  clear hQ14
  generalize xsm σ13 19 450 q14 44 35 41 6 = σ14 at i14 ⊢
  refine x_aload_n d_D_init_199 0 rfl rfl ?_
  refine x_bipush d_D_init_200 rfl ?_
  refine x_newa 20 32 (N := 41) (by decide) (by rw [(i14.2.2.2.1 20 (by decide) (by decide) (fun q => by have q' : ((False ∨ ((400 : Int) ≤ (20 : Int) ∧ (20 : Int) < 400 + ((40 : Nat) : Int))) ∨ ((450 : Int) ≤ (20 : Int) ∧ (20 : Int) < 450 + ((41 : Nat) : Int))) := q; rcases q' with (q' | q') | q'; (exact q'.elim); omega; omega)).1]; exact hfr (20, 19, 32, 41) (by decide)) na_32 ac_int rfl (lr rfl) d_D_init_202 ⟨lr rfl, lr rfl⟩ (fun q15 => ?_)
  refine x_putFr 1 19 19 ((q15 : Int) + 1) ff_D_67 rfl tk_1_19 (by rw [xsu_ne _ _ (by decide), i14.1]; exact h1) (by rw [xsu_ne _ _ (by decide), i14.1]) rfl rfl ⟨rfl, rfl⟩ d_D_init_204 (fun Q15 hQ15 => ?_)
  have i15 := i14.arr (t := 32) (n := 41) (j := 19) (q := q15) hQ15 (fun R' h => by unfold dFv; rw [if_neg (by decide), if_neg (by decide), if_neg (by decide), if_neg (by decide)]; exact h) (by decide) (by decide) (fun a q => by have q' : ((False ∨ ((400 : Int) ≤ a ∧ a < 400 + ((40 : Nat) : Int))) ∨ ((450 : Int) ≤ a ∧ a < 450 + ((41 : Nat) : Int))) := q; rcases q' with (q' | q') | q'; (exact q'.elim); omega; omega)
  clear hQ15
  generalize xsu σ14 20 (q15, 32, 41) = σ15 at i15 ⊢
  refine x_aload_n d_D_init_207 0 rfl rfl ?_
  refine x_bipush d_D_init_208 rfl ?_
  refine x_newa 21 32 (N := 41) (by decide) (by rw [(i15.2.2.2.1 21 (by decide) (by decide) (fun q => by have q' : ((False ∨ ((400 : Int) ≤ (21 : Int) ∧ (21 : Int) < 400 + ((40 : Nat) : Int))) ∨ ((450 : Int) ≤ (21 : Int) ∧ (21 : Int) < 450 + ((41 : Nat) : Int))) := q; rcases q' with (q' | q') | q'; (exact q'.elim); omega; omega)).1]; exact hfr (21, 20, 32, 41) (by decide)) na_32 ac_int rfl (lr rfl) d_D_init_210 ⟨lr rfl, lr rfl⟩ (fun q16 => ?_)
  refine x_putFr 1 20 20 ((q16 : Int) + 1) ff_D_70 rfl tk_1_20 (by rw [xsu_ne _ _ (by decide), i15.1]; exact h1) (by rw [xsu_ne _ _ (by decide), i15.1]) rfl rfl ⟨rfl, rfl⟩ d_D_init_212 (fun Q16 hQ16 => ?_)
  have i16 := i15.arr (t := 32) (n := 41) (j := 20) (q := q16) hQ16 (fun R' h => by unfold dFv; rw [if_neg (by decide), if_neg (by decide), if_neg (by decide), if_neg (by decide)]; exact h) (by decide) (by decide) (fun a q => by have q' : ((False ∨ ((400 : Int) ≤ a ∧ a < 400 + ((40 : Nat) : Int))) ∨ ((450 : Int) ≤ a ∧ a < 450 + ((41 : Nat) : Int))) := q; rcases q' with (q' | q') | q'; (exact q'.elim); omega; omega)
  clear hQ16
  generalize xsu σ15 21 (q16, 32, 41) = σ16 at i16 ⊢
  have hm : ∀ e ∈ dNl, e ∈ ([(21, 20, 32, 41), (20, 19, 32, 41), (19, 18, 44, 41), (18, 17, 32, 6), (17, 16, 32, 30), (16, 15, 32, 1000), (15, 14, 43, 40), (4, 9, 4, 0), (14, 8, 32, 6), (13, 7, 33, 6), (12, 6, 33, 6), (8, 4, 32, 16), (5, 3, 42, 2), (6, 99, 32, 6), (7, 99, 32, 6), (10, 2, 21, 0), (11, 99, 35, 16), (3, 1, 4, 0), (2, 0, 4, 0)] : List (Int × Nat × Nat × Nat)) := by decide
  refine V.made 1 17 (a := (σ 1).1) (t := 1) (n := 0) (N := 23) (by decide) (by rw [i16.1, ← h1]) (by decide) (by decide) rfl (fun j hj => ?_) (fun j hj cc hc => ?_) ?_
  · have hj2 : j = 0 ∨ j = 1 ∨ j = 2 ∨ j = 3 ∨ j = 4 ∨ j = 5 ∨ j = 6 ∨ j = 7 ∨ j = 8 ∨ j = 9 ∨ j = 10 ∨ j = 11 ∨ j = 12 ∨ j = 13 ∨ j = 14 ∨ j = 15 ∨ j = 16 ∨ j = 17 ∨ j = 18 ∨ j = 19 ∨ j = 20 ∨ j = 21 ∨ j = 22 := by omega
    rcases hj2 with rfl | rfl | rfl | rfl | rfl | rfl | rfl | rfl | rfl | rfl | rfl | rfl | rfl | rfl | rfl | rfl | rfl | rfl | rfl | rfl | rfl | rfl | rfl
    · show rz (Q16 1 0) = .ref (σ16 2).1
      have e := (i16.2.1 (2, 0, 4, 0) (by decide)).2.1 (by decide)
      have e2 : Q16 1 0 = ((σ16 2).1 : Int) + 1 := e
      rw [e2]
      rfl
    · show rz (Q16 1 1) = .ref (σ16 3).1
      have e := (i16.2.1 (3, 1, 4, 0) (by decide)).2.1 (by decide)
      have e2 : Q16 1 1 = ((σ16 3).1 : Int) + 1 := e
      rw [e2]
      rfl
    · show rz (Q16 1 2) = .ref (σ16 10).1
      have e := (i16.2.1 (10, 2, 21, 0) (by decide)).2.1 (by decide)
      have e2 : Q16 1 2 = ((σ16 10).1 : Int) + 1 := e
      rw [e2]
      rfl
    · show rz (Q16 1 3) = .ref (σ16 5).1
      have e := (i16.2.1 (5, 3, 42, 2) (by decide)).2.1 (by decide)
      have e2 : Q16 1 3 = ((σ16 5).1 : Int) + 1 := e
      rw [e2]
      rfl
    · show rz (Q16 1 4) = .ref (σ16 8).1
      have e := (i16.2.1 (8, 4, 32, 16) (by decide)).2.1 (by decide)
      have e2 : Q16 1 4 = ((σ16 8).1 : Int) + 1 := e
      rw [e2]
      rfl
    · rfl
    · show rz (Q16 1 6) = .ref (σ16 12).1
      have e := (i16.2.1 (12, 6, 33, 6) (by decide)).2.1 (by decide)
      have e2 : Q16 1 6 = ((σ16 12).1 : Int) + 1 := e
      rw [e2]
      rfl
    · show rz (Q16 1 7) = .ref (σ16 13).1
      have e := (i16.2.1 (13, 7, 33, 6) (by decide)).2.1 (by decide)
      have e2 : Q16 1 7 = ((σ16 13).1 : Int) + 1 := e
      rw [e2]
      rfl
    · show rz (Q16 1 8) = .ref (σ16 14).1
      have e := (i16.2.1 (14, 8, 32, 6) (by decide)).2.1 (by decide)
      have e2 : Q16 1 8 = ((σ16 14).1 : Int) + 1 := e
      rw [e2]
      rfl
    · show rz (Q16 1 9) = .ref (σ16 4).1
      have e := (i16.2.1 (4, 9, 4, 0) (by decide)).2.1 (by decide)
      have e2 : Q16 1 9 = ((σ16 4).1 : Int) + 1 := e
      rw [e2]
      rfl
    · rfl
    · rfl
    · rfl
    · rfl
    · show rz (Q16 1 14) = .ref (σ16 15).1
      have e := (i16.2.1 (15, 14, 43, 40) (by decide)).2.1 (by decide)
      have e2 : Q16 1 14 = ((σ16 15).1 : Int) + 1 := e
      rw [e2]
      rfl
    · show rz (Q16 1 15) = .ref (σ16 16).1
      have e := (i16.2.1 (16, 15, 32, 1000) (by decide)).2.1 (by decide)
      have e2 : Q16 1 15 = ((σ16 16).1 : Int) + 1 := e
      rw [e2]
      rfl
    · show rz (Q16 1 16) = .ref (σ16 17).1
      have e := (i16.2.1 (17, 16, 32, 30) (by decide)).2.1 (by decide)
      have e2 : Q16 1 16 = ((σ16 17).1 : Int) + 1 := e
      rw [e2]
      rfl
    · show rz (Q16 1 17) = .ref (σ16 18).1
      have e := (i16.2.1 (18, 17, 32, 6) (by decide)).2.1 (by decide)
      have e2 : Q16 1 17 = ((σ16 18).1 : Int) + 1 := e
      rw [e2]
      rfl
    · show rz (Q16 1 18) = .ref (σ16 19).1
      have e := (i16.2.1 (19, 18, 44, 41) (by decide)).2.1 (by decide)
      have e2 : Q16 1 18 = ((σ16 19).1 : Int) + 1 := e
      rw [e2]
      rfl
    · show rz (Q16 1 19) = .ref (σ16 20).1
      have e := (i16.2.1 (20, 19, 32, 41) (by decide)).2.1 (by decide)
      have e2 : Q16 1 19 = ((σ16 20).1 : Int) + 1 := e
      rw [e2]
      rfl
    · show rz (Q16 1 20) = .ref (σ16 21).1
      have e := (i16.2.1 (21, 20, 32, 41) (by decide)).2.1 (by decide)
      have e2 : Q16 1 20 = ((σ16 21).1 : Int) + 1 := e
      rw [e2]
      rfl
    · rfl
    · rfl
  · have hj2 : j = 0 ∨ j = 1 ∨ j = 2 ∨ j = 3 ∨ j = 4 ∨ j = 5 ∨ j = 6 ∨ j = 7 ∨ j = 8 ∨ j = 9 ∨ j = 10 ∨ j = 11 ∨ j = 12 ∨ j = 13 ∨ j = 14 ∨ j = 15 ∨ j = 16 ∨ j = 17 ∨ j = 18 ∨ j = 19 ∨ j = 20 ∨ j = 21 ∨ j = 22 := by omega
    rcases hj2 with rfl | rfl | rfl | rfl | rfl | rfl | rfl | rfl | rfl | rfl | rfl | rfl | rfl | rfl | rfl | rfl | rfl | rfl | rfl | rfl | rfl | rfl | rfl
    · have hc' : some (2 : Int) = some cc := hc
      have e := (i16.2.1 (2, 0, 4, 0) (by decide)).1
      have e2 : (σ16 2).2 = (4, 0) := e
      rw [← Option.some.inj hc', e2]
      exact (by decide : (4 : Nat) ≠ 0)
    · have hc' : some (3 : Int) = some cc := hc
      have e := (i16.2.1 (3, 1, 4, 0) (by decide)).1
      have e2 : (σ16 3).2 = (4, 0) := e
      rw [← Option.some.inj hc', e2]
      exact (by decide : (4 : Nat) ≠ 0)
    · have hc' : some (10 : Int) = some cc := hc
      have e := (i16.2.1 (10, 2, 21, 0) (by decide)).1
      have e2 : (σ16 10).2 = (21, 0) := e
      rw [← Option.some.inj hc', e2]
      exact (by decide : (21 : Nat) ≠ 0)
    · have hc' : some (5 : Int) = some cc := hc
      have e := (i16.2.1 (5, 3, 42, 2) (by decide)).1
      have e2 : (σ16 5).2 = (42, 2) := e
      rw [← Option.some.inj hc', e2]
      exact (by decide : (42 : Nat) ≠ 0)
    · have hc' : some (8 : Int) = some cc := hc
      have e := (i16.2.1 (8, 4, 32, 16) (by decide)).1
      have e2 : (σ16 8).2 = (32, 16) := e
      rw [← Option.some.inj hc', e2]
      exact (by decide : (32 : Nat) ≠ 0)
    · cases hc
    · have hc' : some (12 : Int) = some cc := hc
      have e := (i16.2.1 (12, 6, 33, 6) (by decide)).1
      have e2 : (σ16 12).2 = (33, 6) := e
      rw [← Option.some.inj hc', e2]
      exact (by decide : (33 : Nat) ≠ 0)
    · have hc' : some (13 : Int) = some cc := hc
      have e := (i16.2.1 (13, 7, 33, 6) (by decide)).1
      have e2 : (σ16 13).2 = (33, 6) := e
      rw [← Option.some.inj hc', e2]
      exact (by decide : (33 : Nat) ≠ 0)
    · have hc' : some (14 : Int) = some cc := hc
      have e := (i16.2.1 (14, 8, 32, 6) (by decide)).1
      have e2 : (σ16 14).2 = (32, 6) := e
      rw [← Option.some.inj hc', e2]
      exact (by decide : (32 : Nat) ≠ 0)
    · have hc' : some (4 : Int) = some cc := hc
      have e := (i16.2.1 (4, 9, 4, 0) (by decide)).1
      have e2 : (σ16 4).2 = (4, 0) := e
      rw [← Option.some.inj hc', e2]
      exact (by decide : (4 : Nat) ≠ 0)
    · cases hc
    · cases hc
    · cases hc
    · cases hc
    · have hc' : some (15 : Int) = some cc := hc
      have e := (i16.2.1 (15, 14, 43, 40) (by decide)).1
      have e2 : (σ16 15).2 = (43, 40) := e
      rw [← Option.some.inj hc', e2]
      exact (by decide : (43 : Nat) ≠ 0)
    · have hc' : some (16 : Int) = some cc := hc
      have e := (i16.2.1 (16, 15, 32, 1000) (by decide)).1
      have e2 : (σ16 16).2 = (32, 1000) := e
      rw [← Option.some.inj hc', e2]
      exact (by decide : (32 : Nat) ≠ 0)
    · have hc' : some (17 : Int) = some cc := hc
      have e := (i16.2.1 (17, 16, 32, 30) (by decide)).1
      have e2 : (σ16 17).2 = (32, 30) := e
      rw [← Option.some.inj hc', e2]
      exact (by decide : (32 : Nat) ≠ 0)
    · have hc' : some (18 : Int) = some cc := hc
      have e := (i16.2.1 (18, 17, 32, 6) (by decide)).1
      have e2 : (σ16 18).2 = (32, 6) := e
      rw [← Option.some.inj hc', e2]
      exact (by decide : (32 : Nat) ≠ 0)
    · have hc' : some (19 : Int) = some cc := hc
      have e := (i16.2.1 (19, 18, 44, 41) (by decide)).1
      have e2 : (σ16 19).2 = (44, 41) := e
      rw [← Option.some.inj hc', e2]
      exact (by decide : (44 : Nat) ≠ 0)
    · have hc' : some (20 : Int) = some cc := hc
      have e := (i16.2.1 (20, 19, 32, 41) (by decide)).1
      have e2 : (σ16 20).2 = (32, 41) := e
      rw [← Option.some.inj hc', e2]
      exact (by decide : (32 : Nat) ≠ 0)
    · have hc' : some (21 : Int) = some cc := hc
      have e := (i16.2.1 (21, 20, 32, 41) (by decide)).1
      have e2 : (σ16 21).2 = (32, 41) := e
      rw [← Option.some.inj hc', e2]
      exact (by decide : (32 : Nat) ≠ 0)
    · cases hc
    · cases hc
  refine x_vret d_D_init_215 rfl (lr rfl) (lr rfl) ?_
  show Z _ _ _
  rw [hZ]
  refine ⟨rfl, by rw [xsu_self], by rw [xsu_self], fun e he => ?_, fun a ha => ?_, fun a a1 a2 a3 => ?_, fun i hi => ?_⟩
  · have g := i16.2.1 e (hm e he)
    have e1 : ∀ e ∈ dNl, e.1 ≠ 1 := by decide
    rw [xsu_ne _ _ (e1 e he)]
    exact ⟨g.1, g.2.2⟩
  · have ha' : (400 ≤ a ∧ a < 440) ∨ (450 ≤ a ∧ a < 491) := ha
    rw [xsu_ne _ _ (by omega)]
    exact i16.2.2.1 a (by show ((False ∨ ((400 : Int) ≤ a ∧ a < 400 + ((40 : Nat) : Int))) ∨ ((450 : Int) ≤ a ∧ a < 450 + ((41 : Nat) : Int))); rcases ha' with h | h; (exact Or.inl (Or.inr (by omega))); exact Or.inr (by omega))
  · have a3' : ¬ ((400 ≤ a ∧ a < 440) ∨ (450 ≤ a ∧ a < 491)) := a3
    rw [xsu_ne _ _ a1]
    have hm2 : ∀ e ∈ ([(21, 20, 32, 41), (20, 19, 32, 41), (19, 18, 44, 41), (18, 17, 32, 6), (17, 16, 32, 30), (16, 15, 32, 1000), (15, 14, 43, 40), (4, 9, 4, 0), (14, 8, 32, 6), (13, 7, 33, 6), (12, 6, 33, 6), (8, 4, 32, 16), (5, 3, 42, 2), (6, 99, 32, 6), (7, 99, 32, 6), (10, 2, 21, 0), (11, 99, 35, 16), (3, 1, 4, 0), (2, 0, 4, 0)] : List (Int × Nat × Nat × Nat)), e ∈ dNl := by decide
    exact i16.2.2.2.1 a a1 (fun e he => a2 e (hm2 e he)) (fun q => by have q' : ((False ∨ ((400 : Int) ≤ a ∧ a < 400 + ((40 : Nat) : Int))) ∨ ((450 : Int) ≤ a ∧ a < 450 + ((41 : Nat) : Int))) := q; rcases q' with (q' | q') | q'; (exact q'.elim); omega; omega)
  · refine i16.2.2.2.2 i (fun e he => ?_)
    have hj : ∀ e ∈ ([(21, 20, 32, 41), (20, 19, 32, 41), (19, 18, 44, 41), (18, 17, 32, 6), (17, 16, 32, 30), (16, 15, 32, 1000), (15, 14, 43, 40), (4, 9, 4, 0), (14, 8, 32, 6), (13, 7, 33, 6), (12, 6, 33, 6), (8, 4, 32, 16), (5, 3, 42, 2), (6, 99, 32, 6), (7, 99, 32, 6), (10, 2, 21, 0), (11, 99, 35, 16), (3, 1, 4, 0), (2, 0, 4, 0)] : List (Int × Nat × Nat × Nat)), (e.2.1 : Int) ≠ 5 ∧ (e.2.1 : Int) ≠ 10 ∧ (e.2.1 : Int) ≠ 11 ∧ (e.2.1 : Int) ≠ 12 ∧ (e.2.1 : Int) ≠ 13 ∧ (e.2.1 : Int) ≠ 21 ∧ (e.2.1 : Int) ≠ 22 := by decide
    have := hj e he
    omega
