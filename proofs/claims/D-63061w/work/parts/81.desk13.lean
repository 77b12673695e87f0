/-! the desk: build's loops, build -/
set_option maxHeartbeats 8000000 in
set_option maxRecDepth 100000 in
theorem v_D_states {X : xCtx} {Z : xZ} {σ0 : xS} {R0 : xR} {e3 e4 f0 : Int} {G : xGr} {u υ : Int → Int} {m eU : Int} {capU qa : Nat} (hD0 : dSh σ0) (hf0 : fr f0 σ0) (h4 : (σ0 4).2 = (4, 0)) (hw : gW G) (hl6 : G.2.1 10 = 6)
    (fin1 : ∀ (σ : xS) (R : xR) (π : Int → Int) (e n : Int) (cap : Nat) (a : auT) (f1 : Int), bC σ0 R0 e3 e4 f0 G u υ m eU capU σ R π e n cap f1 → auF G a → a.1 ≤ 40 → 0 < n → R 1 10 ≤ n → dAu R u m π a a.1 0 → Z (.returned (some (vi 1))) σ R)
    (fin0 : ∀ (σ : xS) (R : xR) (π : Int → Int) (e n : Int) (cap : Nat) (a : auT) (f1 : Int), bC σ0 R0 e3 e4 f0 G u υ m eU capU σ R π e n cap f1 → auF G a → 40 < a.1 → 0 < n → R 1 10 = 40 → Z (.returned (some (vi 0))) σ R) :
    ∀ (mw k y : Nat) (σ : xS) (R : xR) (π : Int → Int) (e n : Int) (cap : Nat) (a : auT) (c : Nat) (f1 : Int), 560 - (14 * k + y) = mw → (k : Int) < a.1 → y ≤ 13 → bC σ0 R0 e3 e4 f0 G u υ m eU capU σ R π e n cap f1 → R 1 10 ≤ n → a.1 ≤ 40 → auR G c a → (c : Int) = cM k y → dAu R u m π a k y → V X m_D_build (10, 1580, 38400, Z) σ R (17 + 3 * (13 * k + y)) (800 + 72 * (13 * k + y)) 149 [some (.ref (σ 1).1), some (.ref qa), some (vi k), some (vi y), none] [] := by
  intro mw
  induction mw using Nat.strongRecOn with
  | _ mw ih =>
    intro k y σ R π e n cap a c f1 hmw hk hy hC hn h40 hr hc hAu
    have hd10 := hD0.1.at 0 (k := 1) (t := 17) (n := 0) rfl
    have hD := hD0.ext hC.1
    have hd1 := hD.1.at 0 (k := 1) (t := 17) (n := 0) rfl
    have e10 := hAu.1
    refine x_iload_n d_D_build_149 3 rfl rfl ?_
    refine x_bipush d_D_build_150 rfl ?_
    refine x_icmp_ge (tgt := 227) d_D_build_152 rfl (by omega) (by omega) (fun c1 => ?_) (fun c1 => ?_)
    · have ey : y = 13 := by omega
      refine x_iinc d_D_build_227 rfl [some (.ref (σ 1).1), some (.ref qa), some (vi ((k + 1 : Nat) : Int)), some (vi y), none] rfl rfl (lr rfl) ?_
      refine x_goto (tgt := 139) d_D_build_230 rfl ?_
      have hAu2 : dAu R u m π a ((k + 1 : Nat) : Int) 0 := by
        rw [Int.natCast_add]
        exact hAu.row (by omega)
      have hc2 : (c : Int) = cM ((k + 1 : Nat) : Int) 0 := by
        rw [hc, ey]
        unfold cM
        rw [if_neg (by omega), if_pos (by omega)]
        omega
      refine x_iload_n d_D_build_139 2 rfl rfl ?_
      refine x_aload_n d_D_build_140 0 rfl rfl ?_
      refine x_geti 1 10 10 (R 1 10) fl_D_197 tk_17_10 hd1 rfl rfl rfl d_D_build_141 ?_
      refine x_icmp_ge (tgt := 233) d_D_build_144 rfl (by omega) (by omega) (fun c2 => ?_) (fun c2 => ?_)
      · have ek : ((k + 1 : Nat) : Int) = a.1 := by omega
        refine x_iconst d_D_build_233 ?_
        refine x_zret d_D_build_234 rfl (narz (Or.inr rfl)) (by show 17 + 3 * (13 * k + y) ≤ 1580; omega) (by show 800 + 72 * (13 * k + y) ≤ 38400; omega) (fin1 σ R π e n cap a f1 hC ⟨c, hr, Or.inl ?_⟩ h40 (by omega) hn (by rw [← ek]; exact hAu2))
        rw [hc2]
        unfold cM
        rw [if_pos (by omega)]
        omega
      · refine x_iconst d_D_build_147 ?_
        refine x_istore_n d_D_build_148 3 rfl [some (.ref (σ 1).1), some (.ref qa), some (vi ((k + 1 : Nat) : Int)), some (vi ((0 : Nat) : Int)), none] rfl rfl (lr rfl) ?_
        refine V.widen (17 + 3 * (13 * (k + 1) + 0)) (800 + 72 * (13 * (k + 1) + 0)) (by omega) (by omega) ?_
        exact ih _ (by omega) (k + 1) 0 σ R π e n cap a c f1 rfl (by omega) (by omega) hC hn h40 hr hc2 hAu2
    · obtain ⟨a1, a2, a3, a4, a5, a6, a7, a8, a9, a10⟩ := hC
      have hC : bC σ0 R0 e3 e4 f0 G u υ m eU capU σ R π e n cap f1 := ⟨a1, a2, a3, a4, a5, a6, a7, a8, a9, a10⟩
      obtain ⟨p1, p2, p3, p4⟩ := a6.2.2.2.2.1 k (by omega) (by omega)
      refine x_aload_n d_D_build_155 0 rfl rfl ?_
      refine x_aload_n d_D_build_156 0 rfl rfl ?_
      refine x_getc 1 9 4 4 fl_D_45 tk_17_9 hd1 rfl rfl d_D_build_157 ?_
      refine x_iload_n d_D_build_160 2 rfl rfl ?_
      refine x_cva 4 (As := [vi k]) (c_AL_get 4 e n cap a6.1 k (σ (π k)).1 (by omega) p1) cs_D_131 a6.1.rc rfl rfl (lr rfl) d_D_build_161 (lr rfl) ⟨by show 17 + 3 * (13 * k + y) + 0 ≤ 1580; omega, by show 800 + 72 * (13 * k + y) + 0 ≤ 38400; omega⟩ ?_
      refine x_castS (π k) p2 rfl d_D_build_164 ?_
      refine x_iload_n d_D_build_167 3 rfl rfl ?_
      refine x_cv 1 (As := [.ref (σ (π k)).1, vi y]) (c_D_next hD f1 a2 π e n cap a6 (by omega) G u υ m eU capU a4 a7 hw hl6 a5 k y (by omega) (by omega)) cs_D_211 (thisD hD) rfl rfl (lr rfl) d_D_build_168 (lr rfl) ⟨by show 17 + 3 * (13 * k + y) + 3 ≤ 1580; omega, by show 800 + 72 * (13 * k + y) + 72 ≤ 38400; omega⟩ (fun r σ' R' hZ => ?_)
      obtain ⟨z1, π', e', n', cap', ⟨y1, y1e⟩, y2, y3, y4, y5, y6, y7, y8, y9, y10, y11⟩ := hZ
      cases z1
      have t37 := y1.rg (i := R 1 10) (by omega)
      have hC' : bC σ0 R0 e3 e4 f0 G u υ m eU capU σ' R' π' e' n' cap' (f1 + 3) := bC.mv hf0 hd10 h4 hC y8 y9 (by omega) y1 (by omega) y1e t37.2.1 t37.2.2 y10 y11 (fun x x0 x1 => by
        have : x = 12 ∨ x = 13 ∨ x = 14 := by omega
        rcases this with rfl | rfl | rfl
        · rw [hD.1.at 5 (k := 12) (t := 33) (n := 6) rfl]; decide
        · rw [hD.1.at 6 (k := 13) (t := 33) (n := 6) rfl]; decide
        · rw [hD.1.at 7 (k := 14) (t := 32) (n := 6) rfl]; decide)
      have e10' : R' 1 10 = R 1 10 := y10 10 (by decide)
      have e1 : σ' 1 = σ 1 := y8.at hd1 (by decide)
      have hstep := dAu.step (R := R) (R' := R') (π := π) (π' := π') (n := n) a4.1 hAu hr hc ⟨by omega, hk⟩ h40 ⟨by omega, by omega⟩ (by omega) y4 (by rw [← e10]; exact y6) (by rw [← e10]; exact y7) (fun i i0 i1 => by
        have q := a6.rg (i := i) ⟨i0, by omega⟩
        refine y11 _ (by rw [q.2.1]; decide) (by omega) (by omega) (fun w => by rw [← w, q.2.1] at a9; rcases a9 with a9 | a9 <;> cases a9) (fun w => ?_)
        have := (y1.2.2.2.2.2 i (R 1 10) i0 (by omega) (by omega) (by omega) (by omega)).1
        rw [y4 i i0 (by omega)] at this
        omega) e10' (fun i i0 i1 => y11 _ (by rw [hD.2.1 i i0 i1]; decide) (by omega) (by omega) (by have := a6.2.2.1; omega) (by omega)) (fun i i0 i1 => (y1.rg (i := i) ⟨i0, by omega⟩).2.2)
      rw [← e1]
      refine V.widen (17 + 3 * (13 * k + (y + 1))) (800 + 72 * (13 * k + (y + 1))) (by omega) (by omega) ?_
      refine v_D_num (hD0.ext hC'.1) π' e' n' cap' y1 (by omega) (by rw [e10']; exact y5) k y (by omega) (by omega) _ _ qa (by omega) (by omega) none (fun R3 h3 => ?_) (fun q1 q2 q3 => ?_)
      · obtain ⟨b, c', w1, w2, w3, w4, w5, w6⟩ := hstep.1 R3 h3
        have hC3 := bC.num hd10 (hD0.2.1 k (by omega) (by omega)) hC' (by omega) h3
        exact ih _ (by omega) k (y + 1) σ' R3 π' e' n' cap' b c' (f1 + 3) rfl (by omega) (by omega) hC3 (by rw [w6.1]; omega) w3 w1 w2 w6
      · obtain ⟨b, w1, w2⟩ := hstep.2 q1 q2 q3
        exact fin0 σ' R' π' e' n' cap' b (f1 + 3) hC' w1 w2 (by omega) q2
