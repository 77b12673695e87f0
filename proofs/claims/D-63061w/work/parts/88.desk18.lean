/-! the desk: compile -/
set_option maxHeartbeats 8000000 in
set_option maxRecDepth 100000 in
theorem c_D_compile {σ : xS} {R : xR} (g : xGr) (ρ : Int → Int) (e2 : Int) (cap2 : Nat) (e3 n3 : Int) (cap3 : Nat) (π : Int → Int) (e4 n4 : Int) (cap4 : Nat) (f : Int) (hB : dBs σ R g ρ e2 cap2 e3 n3 cap3 π e4 n4 cap4 f) (hst : 0 ≤ R 1 10 ∧ R 1 10 ≤ 40) : CtT m_D_compile 11 1600 38500 [.ref (σ 1).1] σ R (cmZ σ R g ρ cap2 e3 e4) := by
  refine CtT.of [some (.ref (σ 1).1), none, none] rfl (by decide +kernel) (lr rfl) (fun X => ?_)
  obtain ⟨Z, hZ⟩ : ∃ Z : xZ, Z = cmZ σ R g ρ cap2 e3 e4 := ⟨_, rfl⟩
  rw [← hZ]
  obtain ⟨hD, hf, hRu, hc2, hA3, hc3, hP, hls⟩ := hB
  have hB : dBs σ R g ρ e2 cap2 e3 n3 cap3 π e4 n4 cap4 f := ⟨hD, hf, hRu, hc2, hA3, hc3, hP, hls⟩
  have hd1 := hD.1.at 0 (k := 1) (t := 17) (n := 0) rfl
  have hA2 := hRu.2.1
  have hf9 := hf.1
  have hg0 := hRu.1.1
  obtain ⟨z0, hz0⟩ : ∃ z : Int, z = (if g.1 = 0 then 0 else 1) := ⟨_, rfl⟩
  have hz01 : z0 = 0 ∨ z0 = 1 := by
    by_cases c : g.1 = 0
    · rw [if_pos c] at hz0; exact Or.inl hz0
    · rw [if_neg c] at hz0; exact Or.inr hz0
  -- the check of the state
  have h15 : V X m_D_compile (11, 1600, 38500, Z) σ R 0 0 15 [some (.ref (σ 1).1), none, none] [vi z0] := by
    refine x_callST (As := [vi z0]) (c_D_state z0 f hz01 (by omega) (hf.2 f (Int.le_refl _))) cs_D_139 rfl rfl (lr rfl) d_D_compile_15 (lr rfl) ⟨lr rfl, lr rfl⟩ (fun r σ1 R1 hq => ?_) (fun x σ1 R1 hq => ?_)
    · rcases hq with ⟨q1, q2, q3, q4⟩ | ⟨-, q, q2, -⟩
      · cases q2
        rw [q3, q4]
        have hg1 : ¬ g.1 = 0 := fun c => by rw [if_pos c] at hz0; omega
        -- compiled = false; forget; grow
        refine x_aload_n d_D_compile_18 0 rfl rfl ?_
        refine x_iconst d_D_compile_19 ?_
        refine x_putn 1 12 12 fp_D_146 tk_17_12 hd1 rfl rfl ⟨rfl, rfl⟩ d_D_compile_20 (fun R1 hR1 => ?_)
        refine x_aload_n d_D_compile_23 0 rfl rfl ?_
        refine x_cvv 1 (As := []) (c_D_forget hD) cs_D_150 (thisD hD) rfl rfl (lr rfl) d_D_compile_24 (lr rfl) ⟨lr rfl, lr rfl⟩ (fun R2 hR2 => ?_)
        have k2 : ∀ a, a ≠ 1 → R2 a = R a := fun a h => by
          funext i
          rw [hR2, xr_o rfl h, xr_o rfl h, xr_o hR1 h]
        have j2 : ∀ j, j ≠ 12 → j ≠ 21 → j ≠ 22 → R2 1 j = R 1 j := fun j h1 h2 h3 => by
          rw [hR2, xr_d rfl h3, xr_d rfl h2, xr_d hR1 h1]
        have hRu2 : dRu σ R2 g ρ e2 cap2 := hRu.keep (fun a h => k2 a (by omega))
        refine x_aload_n d_D_compile_27 0 rfl rfl ?_
        refine x_cvv 1 (As := []) (c_D_grow hD g ρ e2 cap2 hRu2) cs_D_220 (thisD hD) rfl rfl (lr rfl) d_D_compile_28 (lr rfl) ⟨lr rfl, lr rfl⟩ (fun R3 hR3 => ?_)
        obtain ⟨g1, hpr⟩ := hR3
        have hRu3 : dRu σ R3 g ρ e2 cap2 := hRu2.keep (fun a h => g1 a (by omega) (by omega) (by omega))
        have hck : cKp σ R R3 e3 e4 := ⟨fun a b1 b2 b3 b4 b5 b6 b7 b8 b9 => by rw [g1 a (by omega) (by omega) (by omega), k2 a b2], fun j j1 j2' j3 j4 j5 j6 => by rw [g1 1 (by decide) (by decide) (by decide), j2 j j3 j5 j6]⟩
        have e12 : R3 1 12 = 0 := by rw [g1 1 (by decide) (by decide) (by decide), hR2, xr_d rfl (by decide), xr_d rfl (by decide), xr_s hR1]
        have e21 : R3 1 21 = 0 := by rw [g1 1 (by decide) (by decide) (by decide), hR2, xr_d rfl (by decide), xr_s rfl]
        have e22 : R3 1 22 = 0 := by rw [g1 1 (by decide) (by decide) (by decide), hR2, xr_s rfl]
        have e10 : R3 1 10 = R 1 10 := by rw [g1 1 (by decide) (by decide) (by decide), j2 10 (by decide) (by decide) (by decide)]
        have hB3 : dBs σ R3 g ρ e2 cap2 e3 n3 cap3 π e4 n4 cap4 f := by
          obtain ⟨l4, l5, l6⟩ := hls.2.1
          exact ⟨hD, hf, hRu3, hc2, hA3.keep (by rw [g1 3 (by decide) (by decide) (by decide), k2 3 (by decide)]), hc3, hP.ext sx.rf (by rw [g1 4 (by decide) (by decide) (by decide), k2 4 (by decide)]) (fun _ => by rw [g1 e4 (by omega) (by omega) (by omega), k2 e4 (by omega)]), hls⟩
        have hA23 := hRu3.2.1
        obtain ⟨r1, r2, r3⟩ := hRu3.2.2.2 0 (Int.le_refl _) (by omega)
        have hl0 := (hRu.1.2.2 0 (Int.le_refl _) (by omega)).1
        have hz9 := zc_or (gCm g (g.2.1 0))
        refine x_aload_n d_D_compile_31 0 rfl rfl ?_
        refine x_getc 1 6 12 12 fl_D_35 tk_17_6 hd1 rfl rfl d_D_compile_32 ?_
        refine x_aload_n d_D_compile_35 0 rfl rfl ?_
        refine x_getc 1 0 2 2 fl_D_10 tk_17_0 hd1 rfl rfl d_D_compile_36 ?_
        refine x_iconst d_D_compile_39 ?_
        refine x_cva 2 (As := [vi 0]) (c_AL_get 2 e2 g.1 cap2 hA23 0 (σ (ρ 0)).1 (by omega) r1) cs_D_131 hA23.rc rfl rfl (lr rfl) d_D_compile_40 (lr rfl) ⟨lr rfl, lr rfl⟩ ?_
        refine x_castR (ρ 0) r2.1 rfl d_D_compile_43 ?_
        refine x_getiN (ρ 0) 0 0 (7 + g.2.1 0) fl_D_156 tk_18_0 r2.1 rfl rfl r2.2.2.2.1 d_D_compile_46 ?_
        refine x_bipush d_D_compile_49 rfl ?_
        refine x_isub d_D_compile_51 ?_
        refine V.teq (g.2.1 0) (by omega) ?_
        refine x_zald 12 (zc (gCm g (g.2.1 0))) (hD.1.at 5 rfl) rfl ⟨by decide, rfl, by decide⟩ rfl (by omega) ((hpr.2 (g.2.1 0) hl0.1 hl0.2).1) d_D_compile_52 ?_
        refine x_if_eq (tgt := 67) d_D_compile_53 rfl (by omega) (fun c => ?_) (fun c => ?_)
        · -- the first name does not live
          have hno := zc_eq0.mp c
          refine x_iconst d_D_compile_67 ?_
          refine x_istore_n d_D_compile_68 1 rfl [some (.ref (σ 1).1), some (vi 0), none] rfl rfl (lr rfl) ?_
          refine x_iconst d_D_compile_69 ?_
          refine x_istore_n d_D_compile_70 2 rfl [some (.ref (σ 1).1), some (vi 0), some (vi 0)] rfl rfl (lr rfl) ?_
          have h95 : V X m_D_compile (11, 1600, 38500, Z) σ R3 1 6 95 [some (.ref (σ 1).1), some (vi 0), some (vi 0)] [] := by
            refine x_iload_n d_D_compile_95 1 rfl rfl ?_
            refine x_if_ne (tgt := 107) d_D_compile_96 rfl (by omega) (fun c => ?_) (fun c => ?_)
            · omega
            · refine v_D_cthr hB3 _ _ _ (lr rfl) (lr rfl) (fun q b1 b2 b3 => ?_)
              rw [hZ]
              have k1 : xru R3 f (fun _ => 0) 1 = R3 1 := xru_ne _ _ (by omega)
              refine ⟨e2, e3, n3, cap3, π, e4, n4, cap4, f + 1, b1, b2, hck.up (fun a _ _ a3 => xru_ne _ _ (by have := hf.lt a3; omega)) (fun j _ _ => by rw [k1]), by rw [k1, e10]; exact hst, Or.inr ⟨hg1, by rw [k1]; exact e21, by rw [k1]; exact e22, Or.inl ⟨hno, b3, by rw [k1]; exact e12⟩⟩⟩
          refine x_iload_n d_D_compile_71 2 rfl rfl ?_
          refine x_aload_n d_D_compile_72 0 rfl rfl ?_
          refine x_geti 1 10 10 (R 1 10) fl_D_197 tk_17_10 hd1 rfl rfl e10 d_D_compile_73 ?_
          refine x_icmp_ge (tgt := 95) d_D_compile_76 rfl (by omega) (by omega) (fun c => h95) (fun c => ?_)
          refine x_iload_n d_D_compile_79 1 rfl rfl ?_
          refine x_if_eq (tgt := 95) d_D_compile_80 rfl (by omega) (fun c => h95) (fun c => by omega)
        · -- it lives: build
          have hcm := zc_ne.mp c
          refine x_aload_n d_D_compile_56 0 rfl rfl ?_
          refine x_cv 1 (As := []) (c_D_build hD f hf g ρ e2 cap2 hRu3 (by omega) hpr e3 n3 cap3 hB3.2.2.2.2.1 hc3 π e4 n4 cap4 hB3.2.2.2.2.2.2.1 hls) cs_D_223 (thisD hD) rfl rfl (lr rfl) d_D_compile_57 (lr rfl) ⟨lr rfl, lr rfl⟩ (fun r σ4 R4 hq4 => ?_)
          obtain ⟨z, b1, u, υ, m, eU, capU, π', e', n', cap', f1, hC, hcU, heU, hn0, hb⟩ := hq4
          cases b1
          obtain ⟨a1, a2, a3, a4, a5, a6, a7, a8, a9, a10⟩ := hC
          have e1 : σ4 1 = σ 1 := a1.at hd1 (by decide)
          have hD4 := hD.ext a1
          have hd4 := hD4.1.at 0 (k := 1) (t := 17) (n := 0) rfl
          have hck4 : cKp σ R R4 e3 e4 := hck.tr a10
          have hm9 := a4.1.1
          have he38 := (a6.1.arr hn0).1
          have hU38 := (a4.2.1.arr (by omega)).1
          have heLt : e' < f1 := a2.lt (by rw [he38]; exact (by decide : (38 : Nat) ≠ 0))
          have hULt : eU < f1 := a2.lt (by rw [hU38]; exact (by decide : (38 : Nat) ≠ 0))
          have h238 := (hA2.arr (by omega)).1
          have h2Lt : e2 < f := hf.lt (by rw [h238]; exact (by decide : (38 : Nat) ≠ 0))
          have hls4 : lsN σ4 e2 eU e' f1 := by
            obtain ⟨l1, l2, l3⟩ := hls.1
            obtain ⟨l4, l5, l6⟩ := hls.2.1
            exact ⟨⟨by omega, by omega, a7⟩, ⟨l4, a4.2.2.1, a6.2.2.1⟩, ⟨by omega, hULt, heLt⟩, Or.inr (by rw [a1.at h238 (by decide), h238]), Or.inr (by rw [hU38]), Or.inr (by rw [he38])⟩
          have hB4 : dBs σ4 R4 g ρ e2 cap2 eU m capU π' e' n' cap' f1 := ⟨hD4, a2, hRu.cKp a1 hls hck4, hc2, a4.2.1, Or.inr hcU, a6, hls4⟩
          have e21' : R4 1 21 = 0 := by rw [a10.2 21 (by decide) (by decide)]; exact e21
          have e22' : R4 1 22 = 0 := by rw [a10.2 22 (by decide) (by decide)]; exact e22
          have e12' : R4 1 12 = 0 := by rw [a10.2 12 (by decide) (by decide)]; exact e12
          rw [← e1]
          -- throwing
          have hth : ∀ (R5 : xR) (L : List (Option Value)), (∀ b, ¬ (400 ≤ b ∧ b < 440) → R5 b = R4 b) → (0 ≤ R4 1 10 ∧ R4 1 10 ≤ 40) → (∃ a, auF (gP g) a ∧ auBad (gP g) a) → V X m_D_compile (11, 1600, 38500, Z) σ4 R5 1581 38406 99 L [] := by
            intro R5 L k5 hr ⟨a, w1, w2⟩
            have hB5 : dBs σ4 R5 g ρ e2 cap2 eU m capU π' e' n' cap' f1 := by
              obtain ⟨p1, p2, p3, p4, p5, p6, p7, p8⟩ := hB4
              have := p8.2.1
              exact ⟨p1, p2, p3.keep (fun a h => k5 a (by omega)), p4, p5.keep (k5 3 (by omega)), p6, p7.ext sx.rf (k5 4 (by omega)) (fun _ => k5 e' (by omega)), p8⟩
            refine v_D_cthr hB5 _ _ _ (lr rfl) (lr rfl) (fun q b1 b2 b3 => ?_)
            rw [hZ]
            have k1 : xru R5 f1 (fun _ => 0) 1 = R4 1 := by
              have := a2.1
              rw [xru_ne _ _ (by omega)]; exact k5 1 (by omega)
            refine ⟨e2, eU, m, capU, π', e', n', cap', f1 + 1, b1, a1.trans b2, hck4.up (fun a x1 x2 x3 => ?_) (fun j _ _ => by rw [k1]), by rw [k1]; exact hr, Or.inr ⟨hg1, by rw [k1]; exact e21', by rw [k1]; exact e22', Or.inr ⟨hcm, a, w1, Or.inl ⟨w2, b3, by rw [k1]; exact e12'⟩⟩⟩⟩
            have hal := hf.lt x3
            rw [xru_ne _ _ (by omega)]
            exact k5 a x2
          rcases hb with ⟨rfl, a, hF, h40, hn, hAu⟩ | ⟨rfl, h40, a, hF, h41⟩
          · have ho := hF.ok40 h40
            refine x_if_eq (tgt := 67) d_D_compile_60 rfl (by omega) (fun c => by omega) (fun c => ?_)
            refine x_iconst d_D_compile_63 ?_
            refine x_goto (tgt := 68) d_D_compile_64 rfl ?_
            refine x_istore_n d_D_compile_68 1 rfl [some (.ref (σ4 1).1), some (vi 1), none] rfl rfl (lr rfl) ?_
            refine x_iconst d_D_compile_69 ?_
            refine x_istore_n d_D_compile_70 2 rfl [some (.ref (σ4 1).1), some (vi 1), some (vi 0)] rfl rfl (lr rfl) ?_
            obtain ⟨hw, hl6⟩ := gP.w hRu.1 (by omega)
            have hr40 : 0 ≤ R4 1 10 ∧ R4 1 10 ≤ 40 := by have := hAu.1; have := ho.2.1; omega
            refine v_D_clear hD4 (gP g) a u υ m eU capU a4 π' e' n' cap' a6 hw ho (by rw [← hAu.1]; exact hn) hAu 1581 38406 (lr rfl) (lr rfl) (fun R5 k5 hAC hLd => ?_) (fun R5 k k5 hbad => hth R5 _ k5 hr40 ⟨a, hF, Or.inr hbad⟩) _ 0 1 R4 rfl (Int.le_refl _) (by have := ho.2.1; omega) (fun _ _ => rfl) (fun _ _ => rfl) (fun i x i0 i1 => by omega) (Or.inr ⟨rfl, fun i i0 i1 => by omega⟩)
            refine x_aload_n d_D_compile_107 0 rfl rfl ?_
            refine x_iconst d_D_compile_108 ?_
            refine x_putn 1 12 12 fp_D_146 tk_17_12 hd4 rfl rfl ⟨rfl, rfl⟩ d_D_compile_109 (fun R6 hR6 => ?_)
            refine x_aload_n d_D_compile_112 0 rfl rfl ?_
            refine x_iconst d_D_compile_113 ?_
            refine x_puti 1 13 13 fp_D_232 tk_17_13 hd4 rfl rfl d_D_compile_114 (fun R7 hR7 => ?_)
            refine x_iconst d_D_compile_117 ?_
            refine x_istore_n d_D_compile_118 2 rfl [some (.ref (σ4 1).1), some (vi 1), some (vi 0)] rfl rfl (lr rfl) ?_
            have k6 : ∀ b, b ≠ 1 → R6 b = R5 b := fun b h => by funext i; exact xr_o hR6 h
            have hB6 : dBs σ4 R6 g ρ e2 cap2 eU m capU π' e' n' cap' f1 := by
              obtain ⟨p1, p2, p3, p4, p5, p6, p7, p8⟩ := hB4
              have := p8.2.1
              have k64 : ∀ b, b ≠ 1 → ¬ (400 ≤ b ∧ b < 440) → R6 b = R4 b := fun b h h2 => by rw [k6 b h, k5 b h2]
              exact ⟨p1, p2, p3.keep (fun a h => k64 a (by omega) (by omega)), p4, p5.keep (k64 3 (by omega) (by omega)), p6, p7.ext sx.rf (k64 4 (by omega) (by omega)) (fun _ => k64 e' (by omega) (by omega)), p8⟩
            have e610 : R6 1 10 = a.1 := by rw [xr_d hR6 (by decide), k5 1 (by omega)]; exact hAu.1
            refine v_D_items hD4 (gP g) a u m π' e' n' cap' hB6.2.2.2.2.2.2.1 hw a4.1 ⟨ho.2.1, by rw [← hAu.1]; exact hn, h40⟩ e610 (fun i i0 i1 => ?_) 1581 38406 (lr rfl) (lr rfl) (fun R8 hR8 => ?_) _ 0 R7 rfl (Int.le_refl _) (by have := ho.2.1; omega) hR7
            · have hpi := a6.rg (i := i) ⟨i0, by have := hAu.1; omega⟩
              have ek : R6 (π' i + 1) = R4 (π' i + 1) := by rw [k6 _ (by omega), k5 _ (by omega)]
              rw [dIt_eq ek]
              exact ⟨dSt_eq ek (hAu.2.1 i i0 i1).1, (hAu.2.1 i i0 i1).2⟩
            · rw [hZ]
              have k8 : ∀ b, b ≠ 1 → R8 b = R6 b := fun b h => by funext i; exact xr_o hR8 h
              have j8 : ∀ j, j ≠ 13 → R8 1 j = R6 1 j := fun j h => xr_d hR8 h
              have hB8 : dBs σ4 R8 g ρ e2 cap2 eU m capU π' e' n' cap' f1 := by
                obtain ⟨p1, p2, p3, p4, p5, p6, p7, p8⟩ := hB6
                have := p8.2.1
                exact ⟨p1, p2, p3.keep (fun a h => k8 a (by omega)), p4, p5.keep (k8 3 (by omega)), p6, p7.ext sx.rf (k8 4 (by omega)) (fun _ => k8 e' (by omega)), p8⟩
              have hUl := a4.2.2.1
              have hUs8 : dUs σ4 R8 (gP g) u m υ eU capU := a4.keep (by rw [k8 3 (by omega), k6 3 (by omega), k5 3 (by omega)]) (by rw [k8 eU (by omega), k6 eU (by omega), k5 eU (by omega)]) (fun j j0 j1 => by
                have := (a4.2.2.2 j j0 j1).2.2.1
                exact ⟨by rw [k8 _ (by omega), k6 _ (by omega), k5 _ (by omega)], by rw [k8 _ (by omega), k6 _ (by omega), k5 _ (by omega)]⟩)
              have hnb : ¬ auBad (gP g) a := fun q => q.elim (fun q => by omega) (fun ⟨k, q0, q1, q2⟩ => hAC k q0 q1 q2)
              refine ⟨e2, eU, m, capU, π', e', n', cap', f1, hB8, a1, hck4.up (fun b x1 x2 _ => by rw [k8 b x1, k6 b x1, k5 b x2]) (fun j j1 j2 => by rw [j8 j j2, xr_d hR6 j1, k5 1 (by omega)]), by rw [j8 10 (by decide), e610]; have := ho.2.1; omega, Or.inr ⟨hg1, by rw [j8 21 (by decide), xr_d hR6 (by decide), k5 1 (by omega)]; exact e21', by rw [j8 22 (by decide), xr_d hR6 (by decide), k5 1 (by omega)]; exact e22', Or.inr ⟨hcm, a, hF, Or.inr ⟨hnb, rfl, by rw [j8 12 (by decide), xr_s hR6], ⟨hw, ho, hAC, hl6⟩, by rw [j8 10 (by decide)]; exact e610, xr_s hR8, u, υ, hUs8, hLd.keep h40 (fun k k0 k1 => by rw [k8 _ (by omega), k6 _ (by omega)])⟩⟩⟩⟩
          · refine x_if_eq (tgt := 67) d_D_compile_60 rfl (by omega) (fun c => ?_) (fun c => by omega)
            refine x_iconst d_D_compile_67 ?_
            refine x_istore_n d_D_compile_68 1 rfl [some (.ref (σ4 1).1), some (vi 0), none] rfl rfl (lr rfl) ?_
            refine x_iconst d_D_compile_69 ?_
            refine x_istore_n d_D_compile_70 2 rfl [some (.ref (σ4 1).1), some (vi 0), some (vi 0)] rfl rfl (lr rfl) ?_
            have h95 : V X m_D_compile (11, 1600, 38500, Z) σ4 R4 1581 38406 95 [some (.ref (σ4 1).1), some (vi 0), some (vi 0)] [] := by
              refine x_iload_n d_D_compile_95 1 rfl rfl ?_
              refine x_if_ne (tgt := 107) d_D_compile_96 rfl (by omega) (fun c => by omega) (fun c => ?_)
              exact hth R4 _ (fun _ _ => rfl) (by omega) ⟨a, hF, Or.inl h41⟩
            refine x_iload_n d_D_compile_71 2 rfl rfl ?_
            refine x_aload_n d_D_compile_72 0 rfl rfl ?_
            refine x_geti 1 10 10 40 fl_D_197 tk_17_10 hd4 rfl rfl h40 d_D_compile_73 ?_
            refine x_icmp_ge (tgt := 95) d_D_compile_76 rfl (by omega) (by omega) (fun c => h95) (fun c => ?_)
            refine x_iload_n d_D_compile_79 1 rfl rfl ?_
            refine x_if_eq (tgt := 95) d_D_compile_80 rfl (by omega) (fun c => h95) (fun c => by omega)
      · cases q2
    · rcases hq with ⟨-, q2, -⟩ | ⟨q1, q, q2, q3, q4⟩
      · cases q2
      · cases q2
        have hg1 : g.1 = 0 := Classical.byContradiction (fun c => by rw [if_neg c] at hz0; exact q1 hz0)
        rw [q3, q4]
        refine Vt.leave (by decide +kernel) (lr rfl) (lr rfl) ?_
        show Z _ _ _
        rw [hZ]
        obtain ⟨b1, b2⟩ := hB.exc (x, 9, 0) (fun _ => 0)
        have k1 : ∀ a, a < f → xru R f (fun _ => 0) a = R a := fun a h => xru_ne _ _ (by omega)
        exact ⟨e2, e3, n3, cap3, π, e4, n4, cap4, f + 1, b1, b2, ⟨fun a c1 _ _ _ _ _ _ _ _ => k1 a (hf.lt c1), fun j _ _ _ _ _ _ => by rw [k1 1 (by omega)]⟩, by rw [k1 1 (by omega)]; exact hst, Or.inl ⟨hg1, ⟨x, f, rfl, by rw [xsu_self], by rw [xsu_self]⟩, fun j => by rw [k1 1 (by omega)]⟩⟩
  refine x_aload_n d_D_compile_0 0 rfl rfl ?_
  refine x_getc 1 0 2 2 fl_D_10 tk_17_0 hd1 rfl rfl d_D_compile_1 ?_
  refine x_cvi 2 (As := []) (c_AL_isEmpty 2 e2 g.1 cap2 hA2) cs_D_219 hA2.rc rfl rfl (lr rfl) d_D_compile_4 (lr rfl) ⟨lr rfl, lr rfl⟩ ?_
  by_cases c : g.1 = 0
  · rw [if_pos c] at hz0 ⊢
    refine x_if_ne (tgt := 14) d_D_compile_7 rfl (by omega) (fun c => ?_) (fun c => by omega)
    refine x_iconst d_D_compile_14 ?_
    rw [hz0] at h15
    exact h15
  · rw [if_neg c] at hz0 ⊢
    refine x_if_ne (tgt := 14) d_D_compile_7 rfl (by omega) (fun c => by omega) (fun c => ?_)
    refine x_iconst d_D_compile_10 ?_
    refine x_goto (tgt := 15) d_D_compile_11 rfl ?_
    rw [hz0] at h15
    exact h15
