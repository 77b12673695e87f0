/-! the law: new regions come, old ones keep their shape -/
theorem dBs.ol {σ σ' : xS} {R R' : xR} {g : xGr} {ρ : Int → Int} {e2 : Int} {cap2 : Nat} {e3 n3 : Int} {cap3 : Nat} {π : Int → Int} {e4 n4 : Int} {cap4 : Nat} {f f2 : Int} (h : dBs σ R g ρ e2 cap2 e3 n3 cap3 π e4 n4 cap4 f) (ho : ol f σ σ') (hf2 : fr f2 σ') (hff : f ≤ f2) (hk : ∀ a, a < f → (a = 2 ∨ a = 3 ∨ a = 4 ∨ 1000 ≤ a) → R' a = R a) : dBs σ' R' g ρ e2 cap2 e3 n3 cap3 π e4 n4 cap4 f2 := by
  obtain ⟨p1, p2, p3, p4, p5, p6, p7, ⟨l0, l1, l2, l3, l4, l5⟩⟩ := h
  have hf9 := p2.1
  have hx := ho.sx p2
  refine ⟨p1.ext hx, hf2, p3.ext hx (hk 2 (by omega) (by omega)) (fun _ => hk e2 (by omega) (by omega)) (fun i i0 i1 => ?_), p4, p5.ext hx (hk 3 (by omega) (by omega)), p6, p7.ext hx (hk 4 (by omega) (by omega)) (fun _ => hk e4 (by omega) (by omega)), l0, l1, by omega, by rw [ho e2 (by omega)]; exact l3, by rw [ho e3 (by omega)]; exact l4, by rw [ho e4 (by omega)]; exact l5⟩
  obtain ⟨-, r2, r3⟩ := p3.2.2.2 i i0 i1
  have a1 := p2.lt (a := ρ i) (by rw [r2.1]; decide)
  have a2 := p2.lt (a := ρ i + 1) (by rw [r2.2.1]; exact (by decide : (32 : Nat) ≠ 0))
  exact ⟨hk _ a1 (by omega), hk _ a2 (by omega)⟩
theorem dCmp.ol {σ σ' : xS} {R R' : xR} {g : xGr} {e3 n3 : Int} {cap3 : Nat} {a : auT} {f : Int} (h : dCmp σ R g e3 n3 cap3 a) (hf : fr f σ) (he : e3 < f) (ho : ol f σ σ') (hk : ∀ b, b < f → (b = 3 ∨ 1000 ≤ b ∨ (400 ≤ b ∧ b < 440)) → R' b = R b) (h10 : R' 1 10 = R 1 10) (h13 : R' 1 13 = R 1 13) : dCmp σ' R' g e3 n3 cap3 a := by
  obtain ⟨c1, c2, c3, u, υ, c4, c5⟩ := h
  have hu := c4.2.2.1
  have hf9 := hf.1
  refine ⟨c1, h10.trans c2, h13.trans c3, u, υ, c4.ext (ho.sx hf) (hk 3 (by omega) (by omega)) (hk e3 he (by omega)) (fun j j0 j1 => ?_), c5.keep c1.2.1.2.2.1 (fun k k0 k1 => hk _ (by omega) (by omega))⟩
  obtain ⟨-, hr, h1, -⟩ := c4.2.2.2 j j0 j1
  exact ⟨hk _ (hf.lt (by rw [hr.1]; decide)) (by omega), hk _ (hf.lt (by rw [hr.2.1]; exact (by decide : (32 : Nat) ≠ 0))) (by omega)⟩
/-- what was typed is taken; the rest stays (D may be forgotten) -/
theorem jA.tak {σ σ' : xS} {R R' : xR} {len : Nat} {ρ : Int → Int} {e2 : Int} {cap2 : Nat} {e3 n3 : Int} {cap3 : Nat} {π : Int → Int} {e4 n4 : Int} {cap4 : Nat} {f f2 : Int} {n n' : Nat} {D D' : List (List Int × Int)} {a : auT} {e0 : xEn} (h : jA σ R len ρ e2 cap2 e3 n3 cap3 π e4 n4 cap4 f n D a e0) (ho : ol f σ σ') (hf2 : fr f2 σ') (hff : f ≤ f2) (hk : ∀ b, b < f → b ≠ 1 → b ≠ 8 → b ≠ 10 → b ≠ 16 → b ≠ 17 → b ≠ 18 → b ≠ 30 → b ≠ 48 → b ≠ 49 → b ≠ 50 → b ≠ 57 → b ≠ 60 → R' b = R b) (hk1 : ∀ j, j ≠ 5 → j ≠ 21 → j ≠ 22 → R' 1 j = R 1 j) (hk30 : ∀ j, j = 3 ∨ j = 12 ∨ j = 16 → R' 30 j = R 30 j)
    (hY : jTy σ' R' n') (hT : jTx R') (hF : jFd R' D') (hD : D = [] → D' = []) (hR : D' ≠ [] → D' = D ∧ R' 48 = R 48 ∧ R' 30 15 = R 30 15) : jA σ' R' len ρ e2 cap2 e3 n3 cap3 π e4 n4 cap4 f2 n' D' a e0 := by
  obtain ⟨h1, h2, h3, h4, h5, h6, h7, h8, h9, h10, h11, h12⟩ := h
  have hf := h4.2.1
  have hf9 := hf.1
  have he3 : e3 < f := h4.2.2.2.2.2.2.2.2.2.1.2.1
  have k : ∀ b, b < f → b ≠ 1 → b ≠ 8 → b ≠ 10 → b ≠ 16 → b ≠ 17 → b ≠ 18 → b ≠ 30 → b ≠ 48 → b ≠ 49 → b ≠ 50 → b ≠ 57 → b ≠ 60 → R' b = R b := hk
  have kd : ∀ b, b < f → (b = 2 ∨ b = 3 ∨ b = 4 ∨ 1000 ≤ b) → R' b = R b := fun b b1 b2 => k b b1 (by omega) (by omega) (by omega) (by omega) (by omega) (by omega) (by omega) (by omega) (by omega) (by omega) (by omega) (by omega)
  have kc : ∀ b, b < f → (b = 3 ∨ 1000 ≤ b ∨ (400 ≤ b ∧ b < 440)) → R' b = R b := fun b b1 b2 => k b b1 (by omega) (by omega) (by omega) (by omega) (by omega) (by omega) (by omega) (by omega) (by omega) (by omega) (by omega) (by omega)
  have km : ∀ b, (b = 6 ∨ b = 7 ∨ b = 51 ∨ b = 52 ∨ b = 61 ∨ b = 35 ∨ b = 36 ∨ b = 37 ∨ b = 44 ∨ b = 45) → R' b = R b := fun b b2 => k b (by omega) (by omega) (by omega) (by omega) (by omega) (by omega) (by omega) (by omega) (by omega) (by omega) (by omega) (by omega) (by omega)
  have eg : gM R' = gM R := gM_kp (hk30 3 (by omega)) (fun b hb => km b (by omega))
  refine ⟨h1.ext (by decide) (ho.sx hf), by rw [ho 60 (by omega)]; exact h2, ?_, by rw [eg]; exact h4.ol ho hf2 hff kd, hY, hT, ?_, by rw [km 44 (by omega)]; exact h8, by rw [hk1 10 (by decide) (by decide) (by decide)]; exact h9, hF, ?_, fun hne => ?_⟩
  · unfold jSc; rw [ho 61 (by omega), km 61 (by omega)]; exact h3
  · unfold jCs at *; rw [km 6 (by omega), km 7 (by omega), km 51 (by omega), km 52 (by omega)]; exact h7
  · rcases h11 with ⟨q1, q2, q3⟩ | ⟨q1, q2, q3, q4⟩
    · exact Or.inl ⟨by rw [hk1 12 (by decide) (by decide) (by decide)]; exact q1, by rw [hk30 12 (by omega)]; exact q2, hD q3⟩
    · exact Or.inr ⟨by rw [hk1 12 (by decide) (by decide) (by decide)]; exact q1, by rw [hk30 12 (by omega)]; exact q2, q3.keep (hk30 3 (by omega)) (hk30 12 (by omega)) (fun p q hp => by rw [km p (by omega)]), by rw [eg]; exact q4.ol hf he3 ho kc (hk1 10 (by decide) (by decide) (by decide)) (hk1 13 (by decide) (by decide) (by decide))⟩
  · obtain ⟨w1, w2, w3⟩ := hR hne
    have y := h12 (by rw [← w1]; exact hne)
    have eEn : mEnv R' = mEnv R := by unfold mEnv; rw [w3, w2, km 51 (by omega), km 52 (by omega), hk30 16 (by omega)]
    rw [hk30 16 (by omega), eg, w2, w3, eEn, w1]
    exact y
section LOPS7
variable {X : xCtx} {σ : xS} {R : xR} {len : Nat} {ρ : Int → Int} {e2 : Int} {cap2 : Nat} {e3 n3 : Int} {cap3 : Nat} {π : Int → Int} {e4 n4 : Int} {cap4 : Nat} {f : Int} {n : Nat} {D : List (List Int × Int)} {a : auT} {e0 : xEn}
set_option maxHeartbeats 4000000 in
theorem op_text (h : jA σ R len ρ e2 cap2 e3 n3 cap3 π e4 n4 cap4 f n D a e0) (i : Int) (cn sn : Nat) (hcn : cn + 3 ≤ 600096) (hsn : sn + 26 ≤ 7301386) (nx : lNx X len i (cn + 3) (sn + 26)) : V X m_L lB σ R cn sn 219 (lL σ i none none) [] := by
  have hD := h.2.2.2.1.1
  have hM := h.1
  have h60 := h.2.1
  have hf := h.2.2.2.1.2.1
  have hf9 := hf.1
  have hY := h.2.2.2.2.1
  have hT := h.2.2.2.2.2.1
  have hF := h.2.2.2.2.2.2.2.2.2.1
  have hn10 := hY.1.2.2.2.2
  have ct := c_D_text (R := R) hD f hf n hY.1 (fun i i0 i1 => (hY.2.2 i i0 i1).2)
  refine x_aload_n d_L_219 1 rfl rfl ?_
  refine x_aload_n d_L_220 3 rfl rfl ?_
  refine x_callSW (As := [.ref (σ 1).1, .ref (σ 60).1]) (c_W_text hD h60 (fun _ _ _ _ => True) ct (fun r σ' R' hz => ?_) (fun x σ' R' hz => ?_)) wc_W_text (hmkW m_W_text 2 rfl (by decide +kernel)) w_iniL (lr rfl) wl_W_text ws_W_text rfl rfl (lr rfl) d_L_221 wZ.no (lr rfl) ⟨hcn, hsn⟩ (fun r σ1 R1 hz => ?_)
  · obtain ⟨z1, z2, z3, z4, z5, z6⟩ := hz
    rcases z6 with ⟨-, q, -⟩ | ⟨-, ⟨q, k, q1, -⟩, -⟩
    · exact ⟨(n : Int), by injection q, by omega, z1 60 (by omega)⟩
    · cases q1
  · obtain ⟨z1, z2, z3, z4, z5, z6⟩ := hz
    rcases z6 with ⟨-, q, -⟩ | ⟨-, q, -⟩
    · cases q
    · exact ⟨(8, 1), by simp, q, trivial⟩
  · -- the model's part
    have fin : ∀ (kc : Int) (R0 : xR), (0 ≤ kc ∧ kc ≤ 3) → ol f σ σ1 → fr (f + 3) σ1 → (∀ b, b ≠ 60 → R1 b = R0 b) → (∀ b, b < f → b ≠ 1 → b ≠ 8 → b ≠ 10 → R0 b = R b) → R0 10 1 = 0 → R0 10 3 = 0 →
        ((kc = 0 ∧ tGood n (R 11) ∧ (∀ j, j ≠ 5 → j ≠ 21 → j ≠ 22 → R0 1 j = R 1 j) ∧ R0 1 5 = n ∧ R0 1 21 = 0 ∧ R0 1 22 = 0 ∧ (∀ i, 0 ≤ i → i < (n : Int) → R0 8 i = R 11 i - 97) ∧ R1 60 0 = n) ∨ (kc = 1 ∧ ¬ tGood n (R 11) ∧ R0 1 = R 1 ∧ R0 8 = R 8)) → V X m_L lB σ1 R1 (cn + 3) (sn + 26) 224 (lL σ i none none) [vi kc] := by
      intro kc R0 hk3 ho hfr k60 k0 z4 z5 hcase
      have hM1 : xsh σ1 mshape := hM.ext (by decide) (ho.sx hf)
      have e32 : R1 32 = R 32 := by rw [k60 32 (by decide), k0 32 (by omega) (by decide) (by decide) (by decide)]
      have e30 : R1 30 = R 30 := by rw [k60 30 (by decide), k0 30 (by omega) (by decide) (by decide) (by decide)]
      have eL : lL σ i none none = lL σ1 i none none := by show [_, _, _, _, _, _, _] = [_, _, _, _, _, _, _]; rw [ho 61 (by omega), ho 1 (by omega), ho 30 (by omega), ho 60 (by omega)]
      have htg : tGood (R1 30 2) (R1 32) ↔ tGood n (R 11) := by
        rw [e30, e32, hY.2.1]
        exact tGood_cg (fun i i0 i1 => (hY.2.2 i i0 i1).1.symm)
      rw [eL]
      refine x_istore d_L_224 (lL σ1 i (some (vi kc)) none) rfl rfl (lr rfl) ?_
      refine x_aload_n d_L_226 2 rfl rfl ?_
      refine x_cvm 30 (As := []) (c_P_text hM1 (by rw [e30, hY.2.1]; omega) (fun i i0 i1 => by rw [e30, hY.2.1] at i1; rw [e32]; have := hY.2.2 i i0 i1; omega)) cs_W_63 (thisM hM1) rfl rfl (lr rfl) d_L_227 (lr rfl) ⟨hcn, hsn⟩ (fun z2 R2 hz2 => ?_)
      refine x_istore d_L_230 (lL σ1 i (some (vi kc)) (some (vi z2))) rfl rfl (lr rfl) ?_
      obtain ⟨g1, g2, g3⟩ := hz2
      have h601 : (σ1 60).2 = (37, 1) := by rw [ho 60 (by omega)]; exact h60
      have kk : ∀ b, b ≠ 48 → b ≠ 30 → R2 b = R1 b := fun b b1 b2 => by funext j; exact g1 b j b1 (by omega)
      have kk2 : ∀ b, b < f → b ≠ 1 → b ≠ 8 → b ≠ 10 → b ≠ 16 → b ≠ 17 → b ≠ 18 → b ≠ 30 → b ≠ 48 → b ≠ 49 → b ≠ 50 → b ≠ 57 → b ≠ 60 → R2 b = R b := fun b b1 b2 b3 b4 b5 b6 b7 b8 b9 b10 b11 b12 b13 => by rw [kk b b9 b8, k60 b b13, k0 b b1 b2 b3 b4]
      have kk30 : ∀ j, j = 3 ∨ j = 12 ∨ j = 16 → R2 30 j = R 30 j := fun j hj => by rw [g1 30 j (by decide) (by omega), e30]
      have s10 : (σ1 10).2 = (21, 0) := by rw [ho 10 (by omega)]; exact hY.1.1
      have s11 : (σ1 11).2 = (35, 16) := by rw [ho 11 (by omega)]; exact hY.1.2.1
      have e10 : R2 10 = R0 10 := by rw [kk 10 (by decide) (by decide), k60 10 (by decide)]
      have hY2 : jTy σ1 R2 0 := ⟨⟨s10, s11, by rw [e10]; exact z4, by rw [e10]; exact z5, by omega⟩, g2, fun j j0 j1 => by have : j < 0 := j1; omega⟩
      have e1 : R2 1 = R0 1 := by rw [kk 1 (by decide) (by decide), k60 1 (by decide)]
      have e8 : R2 8 = R0 8 := by rw [kk 8 (by decide) (by decide), k60 8 (by decide)]
      have e60 : R2 60 0 = R1 60 0 := by rw [kk 60 (by decide) (by decide)]
      rcases hcase with ⟨c1, c2, c3, c4, c5, c6, c7, c8⟩ | ⟨c1, c2, c3, c4⟩
      · rcases g3 with ⟨-, y1, y2, y3, y4, y5, y6⟩ | ⟨y, -⟩
        · rw [e30, hY.2.1] at y2 y3 y4
          have hJ2 : jA σ1 R2 len ρ e2 cap2 e3 n3 cap3 π e4 n4 cap4 (f + 3) 0 [] a e0 := h.tak ho hfr (by omega) kk2 (fun j j1 j2 j3 => by rw [e1]; exact c3 j j1 j2 j3) kk30 hY2 ⟨by rw [e1, c4, y3], by rw [e1, c4]; have := c2.1; omega, fun k k0 k1 => by
            rw [e1, c4] at k1
            have q1 := c7 k k0 k1
            have q2 := y4 k k0 k1
            have q3 := c2.2 k k0 k1
            have q4 := (hY.2.2 k k0 k1).1
            rw [e8, q1, q2, e32, ← q4]
            omega⟩ ⟨⟨y5, fun k q hq => by cases hq⟩, dFd.nil (by rw [e1]; exact c5), by decide, by rw [e1, c6, y6], by rw [e1, c6]; exact ⟨by omega, fun _ => rfl⟩⟩ (fun _ => rfl) (fun q => absurd rfl q)
          exact t_text hM1 h601 i kc z2 hk3 (by omega) (fun _ => by rw [e60, c8, y2]) (fun _ => by omega) _ _ hcn hsn (nx σ1 R2 hJ2.all)
        · exact absurd (htg.mpr c2) y
      · rcases g3 with ⟨y, -⟩ | ⟨-, y1, y2, y3, y4, y5⟩
        · exact absurd (htg.mp y) c2
        · have e48 : R2 48 = R 48 := by
            funext q
            rw [y2 q, k60 48 (by decide), k0 48 (by omega) (by decide) (by decide) (by decide)]
          have x15 : R2 30 15 = R 30 15 := by rw [y3, e30]
          have hJ2 : jA σ1 R2 len ρ e2 cap2 e3 n3 cap3 π e4 n4 cap4 (f + 3) 0 D a e0 := h.tak ho hfr (by omega) kk2 (fun j _ _ _ => by rw [e1, c3]) kk30 hY2 (by unfold jTx; rw [e1, c3, e8, c4, e48, x15]; exact hT) ⟨hF.1.kept (by rw [y4, e30]) (fun p q hp => by rw [kk p (by omega) (by omega), k60 p (by omega), k0 p (by omega) (by omega) (by omega) (by omega)]), hF.2.1.keep (by rw [e1, c3]) (fun b hb => by rw [kk b (by omega) (by omega), k60 b (by omega), k0 b (by omega) (by omega) (by omega) (by omega)]), hF.2.2.1, by rw [e1, c3, y5, e30]; exact hF.2.2.2.1, by rw [e1, c3]; exact hF.2.2.2.2⟩ (fun q => q) (fun _ => ⟨rfl, e48, x15⟩)
          exact t_text hM1 h601 i kc z2 hk3 (by omega) (fun q => by omega) (fun q => by omega) _ _ hcn hsn (nx σ1 R2 hJ2.all)
    rcases hz with ⟨z, R0, hzr, hz, hR1, hr⟩ | ⟨x, q, hz, hq, -, hr⟩
    · obtain ⟨z1, z2, z3, z4, z5, z6⟩ := hz
      rcases z6 with ⟨q1, q2, q3, q4, q5, q6, q7⟩ | ⟨-, ⟨q, k, q1, -⟩, -⟩
      · have ez : z = (n : Int) := vi_inj hzr (by omega) q2
        cases hr
        exact fin 0 R0 (by omega) z1 z2 (fun b hb => by rw [hR1]; funext j; exact xr_o rfl hb) z3 z4 z5 (Or.inl ⟨rfl, q1, q3, q4, q5, q6, q7, by rw [hR1, xr_s rfl, ez]⟩)
      · cases q1
    · obtain ⟨z1, z2, z3, z4, z5, z6⟩ := hz
      rcases z6 with ⟨-, q2, -⟩ | ⟨q1, -, q3, q4⟩
      · cases q2
      · have hq' : q = (8, 1) := by simpa using hq
        rw [hq'] at hr
        cases hr
        exact fin 1 R1 (by omega) z1 z2 (fun _ _ => rfl) z3 z4 z5 (Or.inr ⟨rfl, q1, q3, q4⟩)
end LOPS7
