/-! the law: parse, reach -/
theorem hmkW (M' : xM) (n : Nat) (h : M'.1.cls = "RepairDeskLaw") (hp : (parseMethodDescriptor M'.1.desc).map (fun d => d.parameters.length) = some n) : M'.1.cls ≠ "java/lang/invoke/MethodHandle" ∧ M'.1.cls ≠ "java/lang/invoke/VarHandle" ∧ (parseMethodDescriptor M'.1.desc).map (fun d => d.parameters.length) = some n := by
  rw [h]; exact ⟨by decide, by decide, hp⟩
section LOPS5
variable {X : xCtx} {σ : xS} {R : xR} {len : Nat} {ρ : Int → Int} {e2 : Int} {cap2 : Nat} {e3 n3 : Int} {cap3 : Nat} {π : Int → Int} {e4 n4 : Int} {cap4 : Nat} {f : Int} {n : Nat} {D : List (List Int × Int)} {a : auT} {e0 : xEn}
/-- compiled: the model's side -/
theorem jA.mco (h : jA σ R len ρ e2 cap2 e3 n3 cap3 π e4 n4 cap4 f n D a e0) : R 30 12 = 0 ∨ (1 ≤ R 30 12 ∧ R 30 12 ≤ 40 ∧ ∃ a, mCo R a) := by
  rcases h.2.2.2.2.2.2.2.2.2.2.1 with ⟨-, q, -⟩ | ⟨-, q, q2, -⟩
  · exact Or.inl q
  · exact Or.inr ⟨q.1, q.2, a, q2⟩
theorem jA.c01 (h : jA σ R len ρ e2 cap2 e3 n3 cap3 π e4 n4 cap4 f n D a e0) : (R 1 12 = 0 ∧ R 30 12 = 0) ∨ (R 1 12 = 1 ∧ R 30 12 ≠ 0 ∧ mCo R a ∧ dCmp σ R (gM R) e3 n3 cap3 a) := by
  rcases h.2.2.2.2.2.2.2.2.2.2.1 with ⟨q1, q, -⟩ | ⟨q1, q, q2, q3⟩
  · exact Or.inl ⟨q1, q⟩
  · exact Or.inr ⟨q1, by omega, q2, q3⟩
theorem jTx.m (h : jTx R) : (0 ≤ R 30 15 ∧ R 30 15 ≤ 16) ∧ (∀ k, 0 ≤ k → k < R 30 15 → 0 ≤ R 48 k ∧ R 48 k < 6) ∧ ∀ k, 0 ≤ k → k < R 1 5 → 0 ≤ R 8 k ∧ R 8 k < 6 := by
  obtain ⟨t1, t2, t3⟩ := h
  refine ⟨by omega, fun k k0 k1 => ?_, fun k k0 k1 => (t3 k k0 k1).2⟩
  obtain ⟨q1, q2⟩ := t3 k k0 (by omega)
  rw [← q1]; exact q2
set_option maxHeartbeats 4000000 in
theorem op_parse (h : jA σ R len ρ e2 cap2 e3 n3 cap3 π e4 n4 cap4 f n D a e0) (i : Int) (cn sn : Nat) (hcn : cn + 1 ≤ 600096) (hsn : sn + 6 ≤ 7301386) (nx : lNx X len i (cn + 1) (sn + 6)) : V X m_L lB σ R cn sn 328 (lL σ i none none) [] := by
  have hD := h.2.2.2.1.1
  have h60 := h.2.1
  have hf := h.2.2.2.1.2.1
  have hf9 := hf.1
  have hT := h.2.2.2.2.2.1
  have hC := h.c01
  have hTm := hT.m
  have ct := c_D_parse hD f (by omega) (hf.2 f (Int.le_refl _)) (gM R) e3 n3 cap3 a (by rcases hC with q | q; exact Or.inl q.1; exact Or.inr q.1) (fun q => by rcases hC with w | w; (have := w.1; omega); exact w.2.2.2) hT.2.1 hTm.2.2
  refine x_aload_n d_L_328 1 rfl rfl ?_
  refine x_aload_n d_L_329 3 rfl rfl ?_
  refine x_callSW (As := [.ref (σ 1).1, .ref (σ 60).1]) (c_W_parse hD h60 (fun _ _ _ _ => True) ct (fun r σ' R' hz => ?_) (fun x σ' R' hz => ?_)) wc_W_parse (hmkW m_W_parse 2 rfl (by decide +kernel)) w_iniL (lr rfl) wl_W_parse ws_W_parse rfl rfl (lr rfl) d_L_330 wZ.no (lr rfl) ⟨hcn, hsn⟩ (fun r σ1 R1 hz => ?_)
  · rcases hz with ⟨-, q, q2, -⟩ | ⟨q0, z, q1, q2, q3, q4⟩
    · cases q2
    · refine ⟨z, by injection q1, ?_, by rw [q2]⟩
      have := pR.rng hT.2.1.1 hTm.2.2 q4
      have := hT.2.1
      omega
  · rcases hz with ⟨-, q, q2, q3, -⟩ | ⟨-, z, q1, -⟩
    · exact ⟨(9, 1), by simp, ⟨x, f, rfl, by rw [q3, xsu_self], by rw [q3, xsu_self]; cases q2; rfl⟩, trivial⟩
    · cases q1
  · -- on with the model
    have fin : ∀ (kc f' : Int), (0 ≤ kc ∧ kc ≤ 3) → jA σ1 R1 len ρ e2 cap2 e3 n3 cap3 π e4 n4 cap4 f' n D a e0 → (σ1 61 = σ 61 ∧ σ1 1 = σ 1 ∧ σ1 30 = σ 30 ∧ σ1 60 = σ 60) → ((kc = 0 ∧ R1 1 12 = 1 ∧ pR (gP (gM R1)) a (R1 8) (R1 1 5) (R1 60 0)) ∨ (kc = 1 ∧ R1 1 12 = 0)) → V X m_L lB σ1 R1 (cn + 1) (sn + 6) 333 (lL σ i none none) [vi kc] := by
      intro kc f' hk3 hJ ⟨s1, s2, s3, s4⟩ hcase
      have hM1 := hJ.1
      have hT1 := hJ.2.2.2.2.2.1
      have hTm1 := hT1.m
      have hC1 := hJ.c01
      have eL : lL σ i none none = lL σ1 i none none := by show [_, _, _, _, _, _, _] = [_, _, _, _, _, _, _]; rw [s1, s2, s3, s4]
      rw [eL]
      refine x_istore d_L_333 (lL σ1 i (some (vi kc)) none) rfl rfl (lr rfl) ?_
      refine x_aload_n d_L_335 2 rfl rfl ?_
      refine x_cvm 30 (As := []) (c_P_parse hM1 hJ.mco hJ.2.2.2.2.2.2.2.1 hTm1.1 hTm1.2.1) cs_W_71 (thisM hM1) rfl rfl (lr rfl) d_L_336 (lr rfl) ⟨hcn, hsn⟩ (fun z2 R2 hz2 => ?_)
      refine x_istore d_L_339 (lL σ1 i (some (vi kc)) (some (vi z2))) rfl rfl (lr rfl) ?_
      obtain ⟨g1, g2⟩ := hz2
      have hk : jKp R1 R2 := ⟨fun b b1 b2 b3 b4 b5 b6 b7 b8 => by funext j; exact g1 b j b5 b6 (by omega), fun j j0 j1 j2 => g1 30 j (by decide) (by decide) (by omega)⟩
      have hJ2 := hJ.scr hk
      have e60 : R2 60 0 = R1 60 0 := g1 60 0 (by decide) (by decide) (by decide)
      have hc2 : (kc = 0 ∧ R2 30 0 = 0 ∧ R1 60 0 = z2 ∧ (-2147483648 ≤ z2 ∧ z2 < 2147483648)) ∨ (kc = 1 ∧ R2 30 0 = 1) := by
        rcases hcase with ⟨c1, c2, c3⟩ | ⟨c1, c2⟩
        · rcases hC1 with ⟨w, -⟩ | ⟨-, w1, w2, w3⟩
          · omega
          · rcases g2 with ⟨y, -⟩ | ⟨-, y1, a', y2, y3⟩
            · exact absurd y w1
            · have ea : a' = a := auF.fun y2.2.1 w2.2.1
              rw [ea] at y3
              rw [gP_id w2.1, hT1.1] at c3
              have c4 : pR (gM R1) a (R1 48) (R1 30 15) (R1 60 0) := pR.congr (fun k k0 k1 => (hT1.2.2 k k0 (by have := hT1.1; omega)).1) c3
              have ho := auF.ok w2.2.1 w2.2.2.1
              have hac : auC (gM R1) a := fun k k0 k1 q => w2.2.2.1 (Or.inr ⟨k, k0, k1, q⟩)
              have e := pR.fun w2.1.gW ho hac hTm1.2.1 c4 y3
              have hr := pR.rng hTm1.1.1 hTm1.2.1 y3
              have := hTm1.1
              exact Or.inl ⟨c1, y1, e, by omega⟩
        · rcases hC1 with ⟨-, w⟩ | ⟨w, -⟩
          · rcases g2 with ⟨-, y⟩ | ⟨y, -⟩
            · exact Or.inr ⟨c1, y⟩
            · exact absurd w y
          · omega
      exact t_parse hM1 (hJ.2.1) i kc z2 hk3 (by rcases hc2 with q | q <;> omega) (fun q => by rw [e60]; rcases hc2 with w | w; (exact w.2.2.1); omega) (fun q => by rcases hc2 with w | w; (exact w.2.2.2); omega) _ _ hcn hsn (nx σ1 R2 hJ2.all)
    rcases hz with ⟨z, R0, hzr, hz, hR1, hr⟩ | ⟨x, q, hz, hq, -, hr⟩
    · rcases hz with ⟨-, q, q2, -⟩ | ⟨q0, z', q1, q2, q3, q4⟩
      · cases q2
      · have hr4 := pR.rng hT.2.1.1 hTm.2.2 q4
        have ht1 := hT.2.1
        have ez : z = z' := vi_inj hzr (by omega) q1
        cases hr
        have hk0 : jKp R R0 := ⟨fun b b1 _ _ _ _ _ _ _ => q3 b b1, fun j _ _ _ => by rw [q3 30 (by decide)]⟩
        have hk : jKp R R1 := jKp.trans hk0 (jKp.out hR1)
        have k8 : R1 8 = R 8 := hk.1 8 (by decide) (by decide) (by decide) (by decide) (by decide) (by decide) (by decide) (by decide)
        have k1 : R1 1 = R 1 := hk.1 1 (by decide) (by decide) (by decide) (by decide) (by decide) (by decide) (by decide) (by decide)
        have eg : gM R1 = gM R := gM_kp (hk.2 3 (by decide) (by decide) (by decide)) (fun b hb => hk.1 b (by omega) (by omega) (by omega) (by omega) (by omega) (by omega) (by omega) (by omega))
        have hJ := h.scr hk
        rw [q2] at fin ⊢
        exact fin 0 f (by omega) hJ ⟨rfl, rfl, rfl, rfl⟩ (Or.inl ⟨rfl, by rw [k1]; exact q0, by rw [eg, k8, k1, hR1, xr_s rfl, ez]; exact q4⟩)
    · rcases hz with ⟨q0, q', q2, q3, q4⟩ | ⟨-, z, q1, -⟩
      · have hq' : q = (9, 1) := by simpa using hq
        rw [hq'] at hr
        cases hr
        have hJ := h.exc (q', 9, 0) (fun _ => 0)
        rw [← q3, ← q4] at hJ
        have s : ∀ b, b < f → σ1 b = σ b := fun b hb => by rw [q3]; exact xsu_ne _ _ (by omega)
        exact fin 1 (f + 1) (by omega) hJ ⟨s 61 (by omega), s 1 (by omega), s 30 (by omega), s 60 (by omega)⟩ (Or.inr ⟨rfl, by rw [q4, xru_ne _ _ (by omega)]; exact q0⟩)
      · cases q1
end LOPS5
