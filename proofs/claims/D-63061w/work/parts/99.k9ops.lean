/-! the law: compile -/
theorem dCmp.gp {σ : xS} {R : xR} {g : xGr} {e3 n3 : Int} {cap3 : Nat} {a : auT} (h : dCmp σ R g e3 n3 cap3 a) : dCmp σ R (gP g) e3 n3 cap3 a := by
  unfold dCmp at *
  rw [gP_gP]
  exact h
section LOPS9
variable {X : xCtx} {σ : xS} {R : xR} {len : Nat} {ρ : Int → Int} {e2 : Int} {cap2 : Nat} {e3 n3 : Int} {cap3 : Nat} {π : Int → Int} {e4 n4 : Int} {cap4 : Nat} {f : Int} {n : Nat} {D : List (List Int × Int)} {a : auT} {e0 : xEn}
set_option maxHeartbeats 4000000 in
theorem op_compile (h : jA σ R len ρ e2 cap2 e3 n3 cap3 π e4 n4 cap4 f n D a e0) (i : Int) (cn sn : Nat) (hcn : cn + 1600 ≤ 600096) (hsn : sn + 38500 ≤ 7301386) (nx : lNx X len i (cn + 1600) (sn + 38500)) : V X m_L lB σ R cn sn 175 (lL σ i none none) [] := by
  have hB := h.2.2.2.1
  have hD := hB.1
  have hM := h.1
  have h60 := h.2.1
  have hf := hB.2.1
  have hf9 := hf.1
  have hRu := hB.2.2.1
  have hls := hB.2.2.2.2.2.2.2
  have hY := h.2.2.2.2.1
  have hT := h.2.2.2.2.2.1
  have hC := h.2.2.2.2.2.2.1
  have h7 := h.2.2.2.2.2.2.2.1
  have hF := h.2.2.2.2.2.2.2.2.2.1
  have hSc := h.2.2.1
  have ct := c_D_compile (R := R) (gM R) ρ e2 cap2 e3 n3 cap3 π e4 n4 cap4 f hB h.2.2.2.2.2.2.2.2.1
  refine x_aload_n d_L_175 1 rfl rfl ?_
  refine x_aload_n d_L_176 3 rfl rfl ?_
  refine x_callSW (As := [.ref (σ 1).1, .ref (σ 60).1]) (c_W_compile hD h60 (fun _ t _ _ => (t = 9 ∧ (gM R).1 = 0) ∨ (t = 10 ∧ (gM R).1 ≠ 0)) ct (fun r σ' R' hz => ?_) (fun x σ' R' hz => ?_)) wc_W_compile (hmkW m_W_compile 2 rfl (by decide +kernel)) w_iniL (lr rfl) wl_W_compile ws_W_compile rfl rfl (lr rfl) d_L_177 wZ.no (lr rfl) ⟨hcn, hsn⟩ (fun r σ1 R1 hz => ?_)
  · obtain ⟨e2', e3', n3', cap3', π', e4', n4', cap4', f', y1, y2, y3, y4, y5⟩ := hz
    rcases y5 with ⟨-, ⟨q, k, q1, -⟩, -⟩ | ⟨-, -, -, y6⟩
    · cases q1
    · rcases y6 with ⟨-, ⟨q, k, q1, -⟩, -⟩ | ⟨-, a', -, ⟨-, ⟨q, k, q1, -⟩, -⟩ | ⟨-, q, -, q2⟩⟩
      · cases q1
      · cases q1
      · have ho := q2.1.2.1
        exact ⟨a'.1, by injection q, by have := ho.2.1; have := ho.2.2.1; omega, y2.at h60 (by decide)⟩
  · obtain ⟨e2', e3', n3', cap3', π', e4', n4', cap4', f', y1, y2, y3, y4, y5⟩ := hz
    rcases y5 with ⟨w, q, -⟩ | ⟨w, -, -, y6⟩
    · exact ⟨(9, 1), by simp, q, Or.inl ⟨rfl, w⟩⟩
    · rcases y6 with ⟨-, q, -⟩ | ⟨-, a', -, ⟨-, q, -⟩ | ⟨-, q, -⟩⟩
      · exact ⟨(10, 2), by simp, q, Or.inr ⟨rfl, w⟩⟩
      · exact ⟨(10, 2), by simp, q, Or.inr ⟨rfl, w⟩⟩
      · cases q
  · -- the model's part
    have fin : ∀ (kc : Int) (R0 : xR) (e2' e3' n3' : Int) (cap3' : Nat) (π' : Int → Int) (e4' n4' : Int) (cap4' : Nat) (f' : Int), (0 ≤ kc ∧ kc ≤ 3) → (∀ b, b ≠ 60 → R1 b = R0 b) → dBs σ1 R0 (gM R) ρ e2' cap2 e3' n3' cap3' π' e4' n4' cap4' f' → sx σ σ1 → cKp σ R R0 e3 e4 → (0 ≤ R0 1 10 ∧ R0 1 10 ≤ 40) →
        (((gM R).1 = 0 ∧ kc = 1 ∧ ∀ j, R0 1 j = R 1 j) ∨ ((gM R).1 ≠ 0 ∧ R0 1 21 = 0 ∧ R0 1 22 = 0 ∧ ((¬ gCm (gM R) ((gM R).2.1 0) ∧ kc = 2 ∧ R0 1 12 = 0) ∨ (gCm (gM R) ((gM R).2.1 0) ∧ ∃ a', auF (gP (gM R)) a' ∧ ((auBad (gP (gM R)) a' ∧ kc = 2 ∧ R0 1 12 = 0) ∨ (¬ auBad (gP (gM R)) a' ∧ kc = 0 ∧ R1 60 0 = a'.1 ∧ R0 1 12 = 1 ∧ dCmp σ1 R0 (gM R) e3' n3' cap3' a')))))) → V X m_L lB σ1 R1 (cn + 1600) (sn + 38500) 180 (lL σ i none none) [vi kc] := by
      intro kc R0 e2' e3' n3' cap3' π' e4' n4' cap4' f' hk3 k60 hB0 hx hck h10 hcase
      have hM1 : xsh σ1 mshape := hM.ext (by decide) hx
      have hl5 := hls.2.1
      have kM : ∀ b, (σ b).2.1 ≠ 0 → b < 1000 → b ≠ 1 → b ≠ 3 → b ≠ 4 → ¬ (12 ≤ b ∧ b ≤ 14) → ¬ (400 ≤ b ∧ b < 440) → b ≠ 60 → R1 b = R b := fun b b0 b1 b2 b3 b4 b5 b6 b7 => by
        rw [k60 b b7]
        exact hck.1 b b0 b2 b3 b4 (by omega) (by omega) b5 b6 (Or.inl b1)
      have kN : ∀ (j : Nat) (q : Int × Nat × Nat), mshape[j]? = some q → R1 q.1 = R q.1 := fun j q hq => by
        have hh := hM j q hq
        have hall : ∀ q ∈ mshape, q.2.1 ≠ 0 ∧ q.1 < 1000 ∧ q.1 ≠ 1 ∧ q.1 ≠ 3 ∧ q.1 ≠ 4 ∧ ¬ (12 ≤ q.1 ∧ q.1 ≤ 14) ∧ ¬ (400 ≤ q.1 ∧ q.1 < 440) ∧ q.1 ≠ 60 := by decide
        obtain ⟨m1, m2, m3, m4, m5, m6, m7, m8⟩ := hall q (List.mem_of_getElem? hq)
        exact kM q.1 (by rw [hh]; exact m1) m2 m3 m4 m5 m6 m7 m8
      have e30 : R1 30 = R 30 := kN 0 _ rfl
      have e44 : R1 44 = R 44 := kN 9 _ rfl
      have eg : gM R1 = gM R := gM_kp (by rw [e30]) (fun b hb => by rcases hb with rfl | rfl | rfl; exact kN 2 _ rfl; exact kN 3 _ rfl; exact kN 4 _ rfl)
      have eL : lL σ i none none = lL σ1 i none none := by
        show [_, _, _, _, _, _, _] = [_, _, _, _, _, _, _]
        rw [hx.at hSc.1 (by decide), hx.at (hD.1.at 0 (k := 1) (t := 17) (n := 0) rfl) (by decide), hx.at (hM.at 0 (k := 30) (t := 23) (n := 0) rfl) (by decide), hx.at h60 (by decide)]
      have hG0 : mG0 R1 := by
        have q : gWf (gM R1) := by rw [eg]; exact hRu.1
        exact ⟨⟨q.1, q.2.1⟩, fun r r0 r1 => ⟨(q.2.2 r r0 r1).1, (q.2.2 r r0 r1).2.1⟩, fun r k r0 r1 k0 k1 => (q.2.2 r r0 r1).2.2 k k0 k1⟩
      rw [eL]
      refine x_istore d_L_180 (lL σ1 i (some (vi kc)) none) rfl rfl (lr rfl) ?_
      refine x_aload_n d_L_182 2 rfl rfl ?_
      refine x_cvm 30 (As := []) (c_P_compile hM1 hG0 (by rw [e44]; exact h7)) cs_W_60 (thisM hM1) rfl rfl (lr rfl) d_L_183 (lr rfl) ⟨hcn, hsn⟩ (fun z2 R2 hz2 => ?_)
      refine x_istore d_L_186 (lL σ1 i (some (vi kc)) (some (vi z2))) rfl rfl (lr rfl) ?_
      obtain ⟨g1, g2, g3, g4, g5, g6⟩ := hz2
      have kk : ∀ b, b ∉ ([30, 35, 36, 37, 38, 39, 40, 41, 44, 45] : List Int) → R2 b = R1 b := fun b hb => by funext j; exact g1 b j hb
      have kd : ∀ b, (b = 2 ∨ b = 3 ∨ b = 4 ∨ 1000 ≤ b) → R2 b = R0 b := fun b hb => by rw [kk b (by simp; omega), k60 b (by omega)]
      have kd2 : ∀ b, (b = 3 ∨ 1000 ≤ b ∨ (400 ≤ b ∧ b < 440)) → R2 b = R0 b := fun b hb => by rw [kk b (by simp; omega), k60 b (by omega)]
      have e1 : R2 1 = R0 1 := by rw [kk 1 (by decide), k60 1 (by decide)]
      have kt : ∀ b, (σ b).2.1 ≠ 0 → b < 1000 → b ≠ 1 → b ≠ 3 → b ≠ 4 → ¬ (12 ≤ b ∧ b ≤ 14) → ¬ (400 ≤ b ∧ b < 440) → b ≠ 60 → b ∉ ([30, 35, 36, 37, 38, 39, 40, 41, 44, 45] : List Int) → R2 b = R b := fun b b0 b1 b2 b3 b4 b5 b6 b7 b8 => by rw [kk b b8, kM b b0 b1 b2 b3 b4 b5 b6 b7]
      have x30 : ∀ j, j ∉ ([0, 11, 12, 22, 23] : List Int) → R2 30 j = R 30 j := fun j hj => by rw [g2 j hj, e30]
      have h601 : (σ1 60).2 = (37, 1) := by rw [hx.at h60 (by decide)]; exact h60
      have e6 := kt 6 (by rw [hD.1.at 2 (k := 6) (t := 32) (n := 6) rfl]; decide) (by decide) (by decide) (by decide) (by decide) (by decide) (by decide) (by decide) (by decide)
      have e7 := kt 7 (by rw [hD.1.at 3 (k := 7) (t := 32) (n := 6) rfl]; decide) (by decide) (by decide) (by decide) (by decide) (by decide) (by decide) (by decide) (by decide)
      have e8 := kt 8 (by rw [hD.1.at 4 (k := 8) (t := 32) (n := 16) rfl]; decide) (by decide) (by decide) (by decide) (by decide) (by decide) (by decide) (by decide) (by decide)
      have e10 := kt 10 (by rw [hY.1.1]; decide) (by decide) (by decide) (by decide) (by decide) (by decide) (by decide) (by decide) (by decide)
      have e11 := kt 11 (by have q : (σ 11).2 = (35, 16) := hY.1.2.1; rw [q]; decide) (by decide) (by decide) (by decide) (by decide) (by decide) (by decide) (by decide) (by decide)
      have e61 := kt 61 (by rw [hSc.1]; exact (by decide : (32 : Nat) ≠ 0)) (by decide) (by decide) (by decide) (by decide) (by decide) (by decide) (by decide) (by decide)
      have e32 : R2 32 = R 32 := by rw [kk 32 (by decide)]; exact kN 1 _ rfl
      have e48 : R2 48 = R 48 := by rw [kk 48 (by decide)]; exact kN 11 _ rfl
      have e51 : R2 51 = R 51 := by rw [kk 51 (by decide)]; exact kN 14 _ rfl
      have e52 : R2 52 = R 52 := by rw [kk 52 (by decide)]; exact kN 15 _ rfl
      have e60 : R2 60 0 = R1 60 0 := by rw [kk 60 (by decide)]
      -- all but the grammar, what was found, the compiled state
      have mkJ : ∀ (a' : auT), gE (gM R) (gM R2) → R2 1 21 = 0 → R2 1 22 = 0 → R2 1 5 = R 1 5 → jCm σ1 R2 e3' n3' cap3' a' [] → jA σ1 R2 len ρ e2' cap2 e3' n3' cap3' π' e4' n4' cap4' f' n [] a' e0 := by
        intro a' hE w21 w22 w5 hCm
        obtain ⟨p1, p2, p3, p4, p5, p6, p7, p8⟩ := hB0.kp (R' := R2) kd
        refine ⟨hM1, h601, ?_, ⟨p1, p2, p3.cg hE, p4, p5, p6, p7, p8⟩, ?_, ?_, ?_, g3, by rw [e1]; exact h10, ⟨⟨g4, fun k q hq => by cases hq⟩, dFd.nil w21, by decide, by rw [w22, g5], by rw [w22]; exact ⟨by omega, fun _ => rfl⟩⟩, hCm, fun q => absurd rfl q⟩
        · unfold jSc; rw [hx.at hSc.1 (by decide), e61]; exact hSc
        · refine ⟨⟨by rw [hx.at hY.1.1 (by decide)]; exact hY.1.1, by have q : (σ 11).2 = (35, 16) := hY.1.2.1; show (σ1 11).2 = _; rw [hx.at q (by decide)]; exact q, by rw [e10]; exact hY.1.2.2.1, by rw [e10]; exact hY.1.2.2.2.1, hY.1.2.2.2.2⟩, by rw [x30 2 (by decide)]; exact hY.2.1, by rw [e11, e32]; exact hY.2.2⟩
        · unfold jTx; rw [w5, e8, e48, x30 15 (by decide)]; exact hT
        · unfold jCs at *; rw [e6, e7, e51, e52]; exact hC
      have w5 : R2 1 5 = R 1 5 := by rw [e1]; exact hck.2 5 (by decide) (by decide) (by decide) (by decide) (by decide) (by decide)
      have gErf : gE (gM R) (gM R) := ⟨rfl, fun _ _ _ => ⟨rfl, rfl, fun _ _ _ => rfl⟩⟩
      have x3 : R1 30 3 = (gM R).1 := by rw [e30]; rfl
      have e35 : R1 35 0 = (gM R).2.1 0 := by rw [kN 2 (35, 32, 11) rfl]; rfl
      rw [x3, eg, e35] at g6
      rcases hcase with ⟨c0, c1, c2⟩ | ⟨c0, c1, c2, c3⟩
      · rcases g6 with ⟨-, y1, y2, y3⟩ | ⟨y, -⟩ | ⟨y, -⟩
        · have hCm := h.2.2.2.2.2.2.2.2.2.2.1
          have h12 : R 1 12 = 0 ∧ D = [] := by
            rcases hCm with ⟨q1, -, q2⟩ | ⟨-, -, q2, -⟩
            · exact ⟨q1, q2⟩
            · have q3 := q2.1.1
              have q4 : R 30 3 = 0 := c0
              omega
          have d21 : R 1 21 = 0 := by rw [hF.2.1.2.1, h12.2]; rfl
          have d22 : R 1 22 = 0 := hF.2.2.2.2.2 h12.2
          have hJ := mkJ a (by rw [y3]; exact gErf) (by rw [e1, c2]; exact d21) (by rw [e1, c2]; exact d22) w5 (Or.inl ⟨by rw [e1, c2]; exact h12.1, y2, rfl⟩)
          exact t_compile hM1 h601 i kc z2 hk3 (by omega) (fun q => by omega) (fun q => by omega) _ _ hcn hsn (nx σ1 R2 hJ.all)
        · exact absurd c0 y
        · exact absurd c0 y
      · rcases c3 with ⟨v1, v2, v3⟩ | ⟨v1, a', v2, v3⟩
        · rcases g6 with ⟨y, -⟩ | ⟨-, -, y1, y2, y3⟩ | ⟨-, y, -⟩
          · exact absurd y c0
          · have hJ := mkJ a (by rw [y3]; exact gErf) (by rw [e1]; exact c1) (by rw [e1]; exact c2) w5 (Or.inl ⟨by rw [e1]; exact v3, y2, rfl⟩)
            exact t_compile hM1 h601 i kc z2 hk3 (by omega) (fun q => by omega) (fun q => by omega) _ _ hcn hsn (nx σ1 R2 hJ.all)
          · exact absurd y v1
        · rcases g6 with ⟨y, -⟩ | ⟨-, y, -⟩ | ⟨-, -, y1, a2, y2, y3⟩
          · exact absurd y c0
          · exact absurd v1 y
          · have ea : a2 = a' := auF.fun y2 v2
            subst ea
            have hE2 : gE (gM R) (gM R2) := by rw [y1]; exact gP.e hRu.1
            rcases v3 with ⟨u1, u2, u3⟩ | ⟨u1, u2, u3, u4, u5⟩
            · rcases y3 with ⟨-, t1, t2⟩ | ⟨-, -, t⟩
              · have hJ := mkJ a hE2 (by rw [e1]; exact c1) (by rw [e1]; exact c2) w5 (Or.inl ⟨by rw [e1]; exact u3, t2, rfl⟩)
                exact t_compile hM1 h601 i kc z2 hk3 (by omega) (fun q => by omega) (fun q => by omega) _ _ hcn hsn (nx σ1 R2 hJ.all)
              · have tb := t.2.2.1
                rw [y1] at tb
                exact absurd u1 tb
            · rcases y3 with ⟨t, -⟩ | ⟨t1, t2, t3⟩
              · exact absurd t u1
              · have ho := u5.1.2.1
                have hJ := mkJ a2 hE2 (by rw [e1]; exact c1) (by rw [e1]; exact c2) w5 (Or.inr ⟨by rw [e1]; exact u4, by rw [t3.2.2.2.1]; have := ho.2.1; have := ho.2.2.1; omega, t3, by rw [y1]; exact (u5.kp kd2 (by rw [e1]) (by rw [e1])).gp⟩)
                exact t_compile hM1 h601 i kc z2 hk3 (by omega) (fun _ => by rw [e60, u3, t2]) (fun _ => by have := ho.2.1; have := ho.2.2.1; omega) _ _ hcn hsn (nx σ1 R2 hJ.all)
    rcases hz with ⟨z, R0, hzr, hz, hR1, hr⟩ | ⟨x, q, hz, hq, hth, hr⟩
    · obtain ⟨e2', e3', n3', cap3', π', e4', n4', cap4', f', y1, y2, y3, y4, y5⟩ := hz
      rcases y5 with ⟨-, ⟨q, k, q1, -⟩, -⟩ | ⟨w, w21, w22, y6⟩
      · cases q1
      · rcases y6 with ⟨-, ⟨q, k, q1, -⟩, -⟩ | ⟨v1, a', v2, ⟨-, ⟨q, k, q1, -⟩, -⟩ | ⟨v3, q, v4, q2⟩⟩
        · cases q1
        · cases q1
        · have ho := q2.1.2.1
          have ez : z = a'.1 := vi_inj hzr (by have := ho.2.1; have := ho.2.2.1; omega) q
          cases hr
          exact fin 0 R0 e2' e3' n3' cap3' π' e4' n4' cap4' f' (by omega) (fun b hb => by rw [hR1]; funext j; exact xr_o rfl hb) y1 y2 y3 y4 (Or.inr ⟨w, w21, w22, Or.inr ⟨v1, a', v2, Or.inr ⟨v3, rfl, by rw [hR1, xr_s rfl, ez], v4, q2⟩⟩⟩)
    · obtain ⟨e2', e3', n3', cap3', π', e4', n4', cap4', f', y1, y2, y3, y4, y5⟩ := hz
      have hq' : q = (9, 1) ∨ q = (10, 2) := by simpa using hq
      rcases hq' with hq' | hq'
      · rw [hq'] at hr hth
        cases hr
        rcases hth with ⟨-, w⟩ | ⟨w, -⟩
        · rcases y5 with ⟨-, -, y6⟩ | ⟨w2, -⟩
          · exact fin 1 R1 e2' e3' n3' cap3' π' e4' n4' cap4' f' (by omega) (fun _ _ => rfl) y1 y2 y3 y4 (Or.inl ⟨w, rfl, y6⟩)
          · exact absurd w w2
        · exact absurd w (by decide)
      · rw [hq'] at hr hth
        cases hr
        rcases hth with ⟨w, -⟩ | ⟨-, w⟩
        · exact absurd w (by decide)
        · rcases y5 with ⟨w2, -⟩ | ⟨-, w21, w22, y6⟩
          · exact absurd w2 w
          · refine fin 2 R1 e2' e3' n3' cap3' π' e4' n4' cap4' f' (by omega) (fun _ _ => rfl) y1 y2 y3 y4 (Or.inr ⟨w, w21, w22, ?_⟩)
            rcases y6 with ⟨v1, -, v2⟩ | ⟨v1, a', v2, ⟨v3, -, v4⟩ | ⟨-, q, -⟩⟩
            · exact Or.inl ⟨v1, rfl, v2⟩
            · exact Or.inr ⟨v1, a', v2, Or.inl ⟨v3, rfl, v4⟩⟩
            · cases q
end LOPS9
