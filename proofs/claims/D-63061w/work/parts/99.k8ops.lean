/-! the law: rule -/
theorem gE.tr {g g1 g2 : xGr} (h : gE g g1) (h1 : gE g1 g2) : gE g g2 := ⟨h.1.trans h1.1, fun r r0 r1 => by
  obtain ⟨a1, a2, a3⟩ := h.2 r r0 r1
  obtain ⟨b1, b2, b3⟩ := h1.2 r r0 (by rw [← h.1]; exact r1)
  exact ⟨a1.trans b1, a2.trans b2, fun k k0 k1 => (a3 k k0 k1).trans (b3 k k0 (by rw [← a2]; exact k1))⟩⟩
theorem gE_add {g : xGr} {l l' len len' : Int} {s s' : Int → Int} (hl : l = l') (hn : len = len') (hs : ∀ k, 0 ≤ k → k < len → s k = s' k) : gE (gAdd g l len s) (gAdd g l' len' s') := by
  rw [← hl, ← hn]
  refine ⟨rfl, fun r r0 r1 => ⟨rfl, rfl, fun k k0 k1 => ?_⟩⟩
  show (if r = g.1 then s k else g.2.2.2 r k) = (if r = g.1 then s' k else g.2.2.2 r k)
  by_cases c : r = g.1
  · rw [if_pos c, if_pos c]
    have k1' : k < up1 g.2.2.1 g.1 len r := k1
    rw [c, up1_s] at k1'
    exact hs k k0 k1'
  · rw [if_neg c, if_neg c]
section LOPS8
variable {X : xCtx} {σ : xS} {R : xR} {len : Nat} {ρ : Int → Int} {e2 : Int} {cap2 : Nat} {e3 n3 : Int} {cap3 : Nat} {π : Int → Int} {e4 n4 : Int} {cap4 : Nat} {f : Int} {n : Nat} {D : List (List Int × Int)} {a : auT} {e0 : xEn}
set_option maxHeartbeats 4000000 in
theorem op_rule (h : jA σ R len ρ e2 cap2 e3 n3 cap3 π e4 n4 cap4 f n D a e0) (i : Int) (cn sn : Nat) (hcn : cn + 21 ≤ 600096) (hsn : sn + 186 ≤ 7301386) (nx : lNx X len i (cn + 21) (sn + 186)) : V X m_L lB σ R cn sn 131 (lL σ i none none) [] := by
  have hB := h.2.2.2.1
  have hD := hB.1
  have hM := h.1
  have h60 := h.2.1
  have hf := hB.2.1
  have hf9 := hf.1
  have hRu := hB.2.2.1
  have hls := hB.2.2.2.2.2.2.2
  have hY := h.2.2.2.2.1
  have hT := h.2.2.2.2.2.1
  have hF := h.2.2.2.2.2.2.2.2.2.1
  have hn10 := hY.1.2.2.2.2
  have he2 : e2 < f := hls.2.2.1.1
  have ct := c_D_rule (R := R) hD f hf n hY.1 (fun i i0 i1 => (hY.2.2 i i0 i1).2) (gM R) ρ e2 cap2 hRu hB.2.2.2.1 he2
  have hg10 : 0 ≤ (gM R).1 ∧ (gM R).1 ≤ 10 := ⟨hRu.1.1, hRu.1.2.1⟩
  refine x_aload_n d_L_131 1 rfl rfl ?_
  refine x_aload_n d_L_132 3 rfl rfl ?_
  refine x_callSW (As := [.ref (σ 1).1, .ref (σ 60).1]) (c_W_rule hD h60 (fun _ t _ _ => (t = 8 ∧ (¬ rGood n (R 11) ∨ rDup (gM R) (R 11 0 - 65) ((n : Int) - 2) (fun k => rSy (R 11 (k + 2))))) ∨ (t = 9 ∧ rGood n (R 11) ∧ ¬ rDup (gM R) (R 11 0 - 65) ((n : Int) - 2) (fun k => rSy (R 11 (k + 2))) ∧ (gM R).1 = 10)) ct (fun r σ' R' hz => ?_) (fun x σ' R' hz => ?_)) wc_W_rule (hmkW m_W_rule 2 rfl (by decide +kernel)) w_iniL (lr rfl) wl_W_rule ws_W_rule rfl rfl (lr rfl) d_L_133 wZ.no (lr rfl) ⟨hcn, hsn⟩ (fun r σ1 R1 hz => ?_)
  · obtain ⟨z1, z2, z3, z4, z5, z6⟩ := hz
    rcases z6 with ⟨-, ⟨q, k, q1, -⟩, -⟩ | ⟨-, -, -, ⟨q, k, q1, -⟩, -⟩ | ⟨-, -, -, q, -⟩
    · cases q1
    · cases q1
    · exact ⟨(gM R).1, by injection q, by omega, z1 60 (by omega)⟩
  · obtain ⟨z1, z2, z3, z4, z5, z6⟩ := hz
    rcases z6 with ⟨w, q, -⟩ | ⟨w1, w2, w3, q, -⟩ | ⟨-, -, -, q, -⟩
    · exact ⟨(8, 1), by simp, q, Or.inl ⟨rfl, w⟩⟩
    · exact ⟨(9, 2), by simp, q, Or.inr ⟨rfl, w1, w2, w3⟩⟩
    · cases q
  · -- the model's part
    have fin : ∀ (kc : Int) (R0 : xR), (0 ≤ kc ∧ kc ≤ 3) → ol f σ σ1 → fr (f + 5) σ1 → (∀ b, b ≠ 60 → R1 b = R0 b) → (∀ b, b < f → b ≠ 1 → b ≠ 2 → b ≠ 10 → b ≠ e2 → R0 b = R b) → R0 10 1 = 0 → R0 10 3 = 0 →
        ((((kc = 1 ∧ (¬ rGood n (R 11) ∨ rDup (gM R) (R 11 0 - 65) ((n : Int) - 2) (fun k => rSy (R 11 (k + 2))))) ∨ (kc = 2 ∧ rGood n (R 11) ∧ ¬ rDup (gM R) (R 11 0 - 65) ((n : Int) - 2) (fun k => rSy (R 11 (k + 2))) ∧ (gM R).1 = 10)) ∧ R0 1 = R 1 ∧ R0 2 = R 2 ∧ R0 e2 = R e2) ∨
         (kc = 0 ∧ rGood n (R 11) ∧ ¬ rDup (gM R) (R 11 0 - 65) ((n : Int) - 2) (fun k => rSy (R 11 (k + 2))) ∧ (gM R).1 < 10 ∧ R1 60 0 = (gM R).1 ∧ (∀ j, j ≠ 12 → j ≠ 21 → j ≠ 22 → R0 1 j = R 1 j) ∧ R0 1 12 = 0 ∧ R0 1 21 = 0 ∧ R0 1 22 = 0 ∧ ∃ (ρ' : Int → Int) (e2' : Int) (cap2' : Nat), dRu σ1 R0 (gAdd (gM R) (R 11 0 - 65) ((n : Int) - 2) (fun k => rSy (R 11 (k + 2)))) ρ' e2' cap2' ∧ (cap2' = 0 ∨ 10 ≤ cap2') ∧ (e2' = e2 ∨ f ≤ e2'))) → V X m_L lB σ1 R1 (cn + 21) (sn + 186) 136 (lL σ i none none) [vi kc] := by
      intro kc R0 hk3 ho hfr k60 k0 z4 z5 hcase
      have hls1 := hls.2.1
      have hM1 : xsh σ1 mshape := hM.ext (by decide) (ho.sx hf)
      have ko : ∀ b, b < 1000 → b ≠ 1 → b ≠ 2 → b ≠ 10 → b ≠ 60 → R1 b = R b := fun b b0 b1 b2 b3 b4 => by rw [k60 b b4, k0 b (by omega) b1 b2 b3 (by omega)]
      have e32 : R1 32 = R 32 := ko 32 (by decide) (by decide) (by decide) (by decide) (by decide)
      have e30 : R1 30 = R 30 := ko 30 (by decide) (by decide) (by decide) (by decide) (by decide)
      have eg : gM R1 = gM R := gM_kp (by rw [e30]) (fun b hb => ko b (by omega) (by omega) (by omega) (by omega) (by omega))
      have eL : lL σ i none none = lL σ1 i none none := by show [_, _, _, _, _, _, _] = [_, _, _, _, _, _, _]; rw [ho 61 (by omega), ho 1 (by omega), ho 30 (by omega), ho 60 (by omega)]
      have hrg : rGood (R1 30 2) (R1 32) ↔ rGood n (R 11) := by
        rw [e30, e32, hY.2.1]
        exact rGood_cg (fun i i0 i1 => (hY.2.2 i i0 i1).1.symm)
      have hL : rGood n (R 11) → rL R1 = R 11 0 - 65 ∧ rN R1 = (n : Int) - 2 ∧ ∀ k, 0 ≤ k → k < (n : Int) - 2 → rS R1 k = rSy (R 11 (k + 2)) := fun q => by
        have q1 := q.1.1
        refine ⟨by unfold rL; rw [e32, (hY.2.2 0 (by omega) (by omega)).1], by unfold rN; rw [e30, hY.2.1], fun k k0 k1 => ?_⟩
        unfold rS
        rw [e32, (hY.2.2 (k + 2) (by omega) (by omega)).1]
      have hrd : rGood n (R 11) → (rDup (gM R1) (rL R1) (rN R1) (rS R1) ↔ rDup (gM R) (R 11 0 - 65) ((n : Int) - 2) (fun k => rSy (R 11 (k + 2)))) := fun q => by
        obtain ⟨y1, y2, y3⟩ := hL q
        rw [eg, y2]
        exact rDup_cg y1 (fun k k0 k1 => y3 k k0 k1)
      have hG0 : mG0 R1 := by
        have q : gWf (gM R1) := by rw [eg]; exact hRu.1
        exact ⟨⟨q.1, q.2.1⟩, fun r r0 r1 => ⟨(q.2.2 r r0 r1).1, (q.2.2 r r0 r1).2.1⟩, fun r k r0 r1 k0 k1 => (q.2.2 r r0 r1).2.2 k k0 k1⟩
      rw [eL]
      refine x_istore d_L_136 (lL σ1 i (some (vi kc)) none) rfl rfl (lr rfl) ?_
      refine x_aload_n d_L_138 2 rfl rfl ?_
      refine x_cvm 30 (As := []) (c_P_rule hM1 hG0 (by rw [e30, hY.2.1]; omega) (fun i i0 i1 => by rw [e30, hY.2.1] at i1; rw [e32]; have := hY.2.2 i i0 i1; omega)) cs_W_54 (thisM hM1) rfl rfl (lr rfl) d_L_139 (lr rfl) ⟨hcn, hsn⟩ (fun z2 R2 hz2 => ?_)
      refine x_istore d_L_142 (lL σ1 i (some (vi kc)) (some (vi z2))) rfl rfl (lr rfl) ?_
      obtain ⟨g2, g3⟩ := hz2
      have h601 : (σ1 60).2 = (37, 1) := by rw [ho 60 (by omega)]; exact h60
      have s10 : (σ1 10).2 = (21, 0) := by rw [ho 10 (by omega)]; exact hY.1.1
      have s11 : (σ1 11).2 = (35, 16) := by rw [ho 11 (by omega)]; exact hY.1.2.1
      -- it failed on both sides
      have bad : (kc = 1 ∧ R2 30 0 = 1 ∨ kc = 2 ∧ R2 30 0 = 2) → R0 1 = R 1 → R0 2 = R 2 → R0 e2 = R e2 → (∀ p q, p ≠ 49 → ¬ (p = 30 ∧ (q = 0 ∨ q = 2)) → R2 p q = R1 p q) → V X m_L lB σ1 R2 (cn + 21) (sn + 186) 144 (lL σ1 i (some (vi kc)) (some (vi z2))) [] := by
        intro hc c1 c2 c3 g1
        have kk : ∀ b, b ≠ 49 → b ≠ 30 → R2 b = R1 b := fun b b1 b2 => by funext j; exact g1 b j b1 (by omega)
        have ke : ∀ b, b < f → b ≠ 10 → R0 b = R b := fun b b1 b2 => by
          by_cases x1 : b = 1
          · rw [x1]; exact c1
          · by_cases x2 : b = 2
            · rw [x2]; exact c2
            · by_cases x3 : b = e2
              · rw [x3]; exact c3
              · exact k0 b b1 x1 x2 b2 x3
        have kk2 : ∀ b, b < f → b ≠ 10 → b ≠ 30 → b ≠ 49 → b ≠ 60 → R2 b = R b := fun b b1 b2 b3 b4 b5 => by rw [kk b b4 b3, k60 b b5, ke b b1 b2]
        have x30 : ∀ j, j ≠ 0 → j ≠ 2 → R2 30 j = R 30 j := fun j j0 j1 => by rw [g1 30 j (by decide) (by omega), e30]
        have e10 : R2 10 = R0 10 := by rw [kk 10 (by decide) (by decide), k60 10 (by decide)]
        have e1 : R2 1 = R 1 := kk2 1 (by omega) (by decide) (by decide) (by decide) (by decide)
        have e8 : R2 8 = R 8 := kk2 8 (by omega) (by decide) (by decide) (by decide) (by decide)
        have e48 : R2 48 = R 48 := kk2 48 (by omega) (by decide) (by decide) (by decide) (by decide)
        have hY2 : jTy σ1 R2 0 := ⟨⟨s10, s11, by rw [e10]; exact z4, by rw [e10]; exact z5, by omega⟩, g2, fun j j0 j1 => by have : j < 0 := j1; omega⟩
        have hJ2 : jA σ1 R2 len ρ e2 cap2 e3 n3 cap3 π e4 n4 cap4 (f + 5) 0 D a e0 := h.tak ho hfr (by omega) (fun b b1 _ _ b4 _ _ _ b8 _ b10 _ _ b13 => kk2 b b1 b4 b8 b10 b13) (fun j _ _ _ => by rw [e1]) (fun j hj => x30 j (by omega) (by omega)) hY2 (by unfold jTx; rw [e1, e8, e48, x30 15 (by decide) (by decide)]; exact hT) ⟨hF.1.kept (x30 22 (by decide) (by decide)) (fun p q hp => by rw [kk2 p (by omega) (by omega) (by omega) (by omega) (by omega)]), hF.2.1.keep (by rw [e1]) (fun b hb => kk2 b (by omega) (by omega) (by omega) (by omega) (by omega)), hF.2.2.1, by rw [e1, x30 23 (by decide) (by decide)]; exact hF.2.2.2.1, by rw [e1]; exact hF.2.2.2.2⟩ (fun q => q) (fun _ => ⟨rfl, e48, x30 15 (by decide) (by decide)⟩)
        exact t_rule hM1 h601 i kc z2 hk3 (by omega) (fun q => by omega) (fun q => by omega) _ _ hcn hsn (nx σ1 R2 hJ2.all)
      rcases hcase with ⟨hc, c1, c2, c3⟩ | ⟨c0, c1, c2, c3, c4, c5, c6, c7, c8, ρ', e2', cap2', w1, w2, w3⟩
      · rcases hc with ⟨x0, x1⟩ | ⟨x0, x1, x2, x3⟩
        · rcases g3 with ⟨-, y1, y2⟩ | ⟨y1, y2, -⟩ | ⟨y1, y2, -⟩
          · exact bad (Or.inl ⟨x0, y1⟩) c1 c2 c3 y2
          · exact absurd x1 (fun q => q.elim (fun q => q (hrg.mp y1)) (fun q => y2 ((hrd (hrg.mp y1)).mpr q)))
          · exact absurd x1 (fun q => q.elim (fun q => q (hrg.mp y1)) (fun q => y2 ((hrd (hrg.mp y1)).mpr q)))
        · rcases g3 with ⟨y, -⟩ | ⟨-, -, -, y1, y2⟩ | ⟨-, -, y, -⟩
          · exact absurd y (fun q => q.elim (fun q => q (hrg.mpr x1)) (fun q => x2 ((hrd x1).mp q)))
          · exact bad (Or.inr ⟨x0, y1⟩) c1 c2 c3 y2
          · rw [e30] at y
            have : R 30 3 = 10 := x3
            omega
      · rcases g3 with ⟨y, -⟩ | ⟨-, -, y, -⟩ | ⟨-, -, -, y1, y2, y3, y4, y5, y6, y7, y8⟩
        · exact absurd y (fun q => q.elim (fun q => q (hrg.mpr c1)) (fun q => c2 ((hrd c1).mp q)))
        · rw [e30] at y
          have : R 30 3 < 10 := c3
          omega
        · obtain ⟨m1, m2, m3⟩ := hL c1
          have hE : gE (gAdd (gM R) (R 11 0 - 65) ((n : Int) - 2) (fun k => rSy (R 11 (k + 2)))) (gM R2) := by
            rw [eg] at y7
            exact gE.tr (gE_add m1.symm m2.symm (fun k k0 k1 => (m3 k k0 k1).symm)) y7
          have kk : ∀ b, b ≠ 35 → b ≠ 36 → b ≠ 37 → b ≠ 49 → b ≠ 30 → R2 b = R1 b := fun b b1 b2 b3 b4 b5 => by funext j; exact y8 b j b1 b2 b3 b4 (by omega)
          have kf : ∀ b, b < 1000 → b ≠ 1 → b ≠ 2 → b ≠ 10 → b ≠ 60 → b ≠ 35 → b ≠ 36 → b ≠ 37 → b ≠ 49 → b ≠ 30 → R2 b = R b := fun b b0 b1 b2 b3 b4 b5 b6 b7 b8 b9 => by rw [kk b b5 b6 b7 b8 b9, ko b b0 b1 b2 b3 b4]
          have kg : ∀ b, 1000 ≤ b ∨ b = 2 ∨ b = 3 ∨ b = 4 ∨ b = 1 ∨ b = 10 → R2 b = R0 b := fun b hb => by rw [kk b (by omega) (by omega) (by omega) (by omega) (by omega), k60 b (by omega)]
          have hx := ho.sx hf
          have hRu2 : dRu σ1 R2 (gM R2) ρ' e2' cap2' := (w1.keep (fun b hb => kg b (by omega))).cg hE
          have hA38 := (w1.2.1.arr (by show 0 < (gM R).1 + 1; omega)).1
          have he2' : e2' < f + 5 := hfr.lt (by rw [hA38]; exact (by decide : (38 : Nat) ≠ 0))
          have he29 := w1.2.2.1
          obtain ⟨⟨l1, l2, l3⟩, ⟨l4, l5, l6⟩, ⟨l7, l8, l9⟩, l10, l11, l12⟩ := hls
          have hB2 : dBs σ1 R2 (gM R2) ρ' e2' cap2' e3 n3 cap3 π e4 n4 cap4 (f + 5) := ⟨hD.ext hx, hfr, hRu2, w2, hB.2.2.2.2.1.ext hx (by rw [kg 3 (by omega), k0 3 (by omega) (by decide) (by decide) (by decide) (by omega)]), hB.2.2.2.2.2.1, hB.2.2.2.2.2.2.1.ext hx (by rw [kg 4 (by omega), k0 4 (by omega) (by decide) (by decide) (by decide) (by omega)]) (fun _ => by rw [kg e4 (by omega), k0 e4 (by omega) (by omega) (by omega) (by omega) (by omega)]), ⟨by omega, by omega, l3⟩, ⟨he29, l5, l6⟩, ⟨by omega, by omega, by omega⟩, Or.inr (by rw [hA38]), by rw [ho e3 (by omega)]; exact l11, by rw [ho e4 (by omega)]; exact l12⟩
          have e1 : R2 1 = R0 1 := kg 1 (by omega)
          have e10 : R2 10 = R0 10 := kg 10 (by omega)
          have j30 : ∀ j, ¬ (j = 0 ∨ j = 2 ∨ j = 3 ∨ j = 12 ∨ j = 22 ∨ j = 23) → R2 30 j = R 30 j := fun j hj => by rw [y8 30 j (by decide) (by decide) (by decide) (by decide) (by omega), e30]
          have e61 := kf 61 (by decide) (by decide) (by decide) (by decide) (by decide) (by decide) (by decide) (by decide) (by decide) (by decide)
          have e8 := kf 8 (by decide) (by decide) (by decide) (by decide) (by decide) (by decide) (by decide) (by decide) (by decide) (by decide)
          have e48 := kf 48 (by decide) (by decide) (by decide) (by decide) (by decide) (by decide) (by decide) (by decide) (by decide) (by decide)
          have e6 := kf 6 (by decide) (by decide) (by decide) (by decide) (by decide) (by decide) (by decide) (by decide) (by decide) (by decide)
          have e7 := kf 7 (by decide) (by decide) (by decide) (by decide) (by decide) (by decide) (by decide) (by decide) (by decide) (by decide)
          have e51 := kf 51 (by decide) (by decide) (by decide) (by decide) (by decide) (by decide) (by decide) (by decide) (by decide) (by decide)
          have e52 := kf 52 (by decide) (by decide) (by decide) (by decide) (by decide) (by decide) (by decide) (by decide) (by decide) (by decide)
          have e44 := kf 44 (by decide) (by decide) (by decide) (by decide) (by decide) (by decide) (by decide) (by decide) (by decide) (by decide)
          have e60 : R2 60 0 = R1 60 0 := by rw [kk 60 (by decide) (by decide) (by decide) (by decide) (by decide)]
          have hJ2 : jA σ1 R2 len ρ' e2' cap2' e3 n3 cap3 π e4 n4 cap4 (f + 5) 0 [] a e0 := by
            obtain ⟨p1, p2, p3, p4, p5, p6, p7, p8, p9, p10, p11, p12⟩ := h
            refine ⟨hM1, h601, ?_, hB2, ⟨⟨s10, s11, by rw [e10]; exact z4, by rw [e10]; exact z5, by omega⟩, g2, fun j j0 j1 => by have : j < 0 := j1; omega⟩, ?_, ?_, by rw [e44]; exact p8, by rw [e1, c5 10 (by decide) (by decide) (by decide)]; exact p9, ⟨⟨y4, fun k q hq => by cases hq⟩, dFd.nil (by rw [e1]; exact c7), by decide, by rw [e1, c8, y5], by rw [e1, c8]; exact ⟨by omega, fun _ => rfl⟩⟩, Or.inl ⟨by rw [e1]; exact c6, y3, rfl⟩, fun q => absurd rfl q⟩
            · unfold jSc; rw [ho 61 (by omega), e61]; exact p3
            · unfold jTx; rw [e1, c5 5 (by decide) (by decide) (by decide), e8, e48, j30 15 (by decide)]; exact p6
            · unfold jCs at *; rw [e6, e7, e51, e52]; exact p7
          exact t_rule hM1 h601 i kc z2 hk3 (by omega) (fun _ => by rw [e60, c4, y2, e30]; rfl) (fun _ => by rw [y2, e30]; have : (gM R).1 = R 30 3 := rfl; omega) _ _ hcn hsn (nx σ1 R2 hJ2.all)
    rcases hz with ⟨z, R0, hzr, hz, hR1, hr⟩ | ⟨x, q, hz, hq, hth, hr⟩
    · obtain ⟨z1, z2, z3, z4, z5, z6⟩ := hz
      rcases z6 with ⟨-, ⟨q, k, q1, -⟩, -⟩ | ⟨-, -, -, ⟨q, k, q1, -⟩, -⟩ | ⟨q1, q2, q3, q4, q5, q6, q7, q8, q9⟩
      · cases q1
      · cases q1
      · have ez : z = (gM R).1 := vi_inj hzr (by omega) q4
        cases hr
        exact fin 0 R0 (by omega) z1 z2 (fun b hb => by rw [hR1]; funext j; exact xr_o rfl hb) z3 z4 z5 (Or.inr ⟨rfl, q1, q2, q3, by rw [hR1, xr_s rfl, ez], q5, q6, q7, q8, q9⟩)
    · obtain ⟨z1, z2, z3, z4, z5, z6⟩ := hz
      have hq' : q = (8, 1) ∨ q = (9, 2) := by simpa using hq
      have hkp : R1 1 = R 1 ∧ R1 2 = R 2 ∧ R1 e2 = R e2 := by
        rcases z6 with ⟨-, -, w1, w2, w3⟩ | ⟨-, -, -, -, w1, w2, w3⟩ | ⟨-, -, -, w, -⟩
        · exact ⟨w1, w2, w3 he2⟩
        · exact ⟨w1, w2, w3 he2⟩
        · cases w
      rcases hq' with hq' | hq'
      · rw [hq'] at hr hth
        cases hr
        rcases hth with ⟨-, w⟩ | ⟨w, -⟩
        · exact fin 1 R1 (by omega) z1 z2 (fun _ _ => rfl) z3 z4 z5 (Or.inl ⟨Or.inl ⟨rfl, w⟩, hkp⟩)
        · exact absurd w (by decide)
      · rw [hq'] at hr hth
        cases hr
        rcases hth with ⟨w, -⟩ | ⟨-, w⟩
        · exact absurd w (by decide)
        · exact fin 2 R1 (by omega) z1 z2 (fun _ _ => rfl) z3 z4 z5 (Or.inl ⟨Or.inr ⟨rfl, w⟩, hkp⟩)
end LOPS8
