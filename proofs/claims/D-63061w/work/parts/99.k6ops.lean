/-! the law: reach -/
section LOPS6
variable {X : xCtx} {σ : xS} {R : xR} {len : Nat} {ρ : Int → Int} {e2 : Int} {cap2 : Nat} {e3 n3 : Int} {cap3 : Nat} {π : Int → Int} {e4 n4 : Int} {cap4 : Nat} {f : Int} {n : Nat} {D : List (List Int × Int)} {a : auT} {e0 : xEn}
/-- a repair's reach, on both sides -/
theorem jA.rch (h : jA σ R len ρ e2 cap2 e3 n3 cap3 π e4 n4 cap4 f n D a e0) {k : Int} (hk : 0 ≤ k ∧ k < R 1 21) : R 21 k = R 56 k ∧ -40 ≤ R 21 k ∧ R 21 k ≤ 40 := by
  have hF := h.2.2.2.2.2.2.2.2.2.1
  have e21 := hF.2.1.2.1
  have hk2 : k.toNat < D.length := by omega
  have q1 := List.getElem?_eq_getElem hk2
  have q2 := (hF.2.1.2.2 _ _ q1).2.1
  have q3 := (hF.1.2 _ _ q1 (by have := hF.2.2.1; omega)).2
  rw [show ((k.toNat : Nat) : Int) = k by omega] at q2 q3
  have hne : D ≠ [] := fun e => by rw [e] at hk2; cases hk2
  have hfd := (h.2.2.2.2.2.2.2.2.2.2.2 hne).2.2.2.2.2 _ (List.mem_of_getElem? q1)
  exact ⟨by rw [q2, q3], by rw [q2]; exact hfd.2.2.2.2.2.1, by rw [q2]; exact hfd.2.2.2.2.2.2⟩
set_option maxHeartbeats 4000000 in
theorem op_reach (h : jA σ R len ρ e2 cap2 e3 n3 cap3 π e4 n4 cap4 f n D a e0) (i : Int) (hi : 0 ≤ i ∧ i + 3 < (len : Int)) (cn sn : Nat) (hcn : cn + 1 ≤ 600096) (hsn : sn + 6 ≤ 7301386) (nx : lNx X len i (cn + 1) (sn + 6)) : V X m_L lB σ R cn sn 478 (lL σ i none none) [] := by
  have hD := h.2.2.2.1.1
  have h60 := h.2.1
  have hf := h.2.2.2.1.2.1
  have hf9 := hf.1
  have hF := h.2.2.2.2.2.2.2.2.2.1
  have e21 := hF.2.1.2.1
  have h40 := hF.2.2.1
  have hs1 := h.2.2.1.2.2 (i + 1) (by omega) (by omega)
  obtain ⟨k, hkk⟩ : ∃ k, k = R 61 (i + 1) := ⟨_, rfl⟩
  rw [← hkk] at hs1
  have ct := c_D_reach (R := R) hD k f hs1 (by omega) (by omega) (hf.2 f (Int.le_refl _))
  refine x_aload_n d_L_478 1 rfl rfl ?_
  refine x_scr h (c := 1) (by omega) d_L_479 d_L_480 d_L_482 d_L_483 d_L_484 ?_
  refine x_aload_n d_L_485 3 rfl rfl ?_
  rw [← hkk]
  refine x_callSW (As := [.ref (σ 1).1, vi k, .ref (σ 60).1]) (c_W_reach hD k h60 (fun _ _ _ _ => True) ct (fun r σ' R' hz => ?_) (fun x σ' R' hz => ?_)) wc_W_reach (hmkW m_W_reach 3 rfl (by decide +kernel)) w_iniL (lr rfl) wl_W_reach ws_W_reach rfl rfl (lr rfl) d_L_486 wZ.no (lr rfl) ⟨hcn, hsn⟩ (fun r σ1 R1 hz => ?_)
  · rcases hz with ⟨-, q, q2, -⟩ | ⟨q0, q1, q2, q3⟩
    · cases q2
    · have := (h.rch q0).2
      exact ⟨R 21 k, by injection q1, by omega, by rw [q2]⟩
  · rcases hz with ⟨-, q, q2, q3, -⟩ | ⟨-, q1, -⟩
    · exact ⟨(11, 1), by simp, ⟨x, f, rfl, by rw [q3, xsu_self], by rw [q3, xsu_self]; cases q2; rfl⟩, trivial⟩
    · cases q1
  · have fin : ∀ (kc f' : Int), (0 ≤ kc ∧ kc ≤ 3) → jA σ1 R1 len ρ e2 cap2 e3 n3 cap3 π e4 n4 cap4 f' n D a e0 → (σ1 61 = σ 61 ∧ σ1 1 = σ 1 ∧ σ1 30 = σ 30 ∧ σ1 60 = σ 60) → R1 61 (i + 1) = k → ((kc = 0 ∧ (0 ≤ k ∧ k < R1 1 21) ∧ R1 60 0 = R1 21 k) ∨ (kc = 1 ∧ ¬ (0 ≤ k ∧ k < R1 1 21))) → V X m_L lB σ1 R1 (cn + 1) (sn + 6) 489 (lL σ i none none) [vi kc] := by
      intro kc f' hk3 hJ ⟨s1, s2, s3, s4⟩ hk1 hcase
      have hM1 := hJ.1
      have hF1 := hJ.2.2.2.2.2.2.2.2.2.1
      have d1 := hF1.2.1.2.1
      have d2 := hF1.1.1
      have d3 := hF1.2.2.1
      have eL : lL σ i none none = lL σ1 i none none := by show [_, _, _, _, _, _, _] = [_, _, _, _, _, _, _]; rw [s1, s2, s3, s4]
      rw [eL]
      refine x_istore d_L_489 (lL σ1 i (some (vi kc)) none) rfl rfl (lr rfl) ?_
      refine x_aload_n d_L_491 2 rfl rfl ?_
      refine x_scr hJ (c := 1) (by omega) d_L_492 d_L_493 d_L_495 d_L_496 d_L_497 ?_
      rw [hk1]
      refine x_cvm 30 (As := [vi k]) (c_P_reach hM1 k hs1 (by omega)) cs_W_87 (thisM hM1) rfl rfl (lr rfl) d_L_498 (lr rfl) ⟨hcn, hsn⟩ (fun z2 R2 hz2 => ?_)
      refine x_istore d_L_501 (lL σ1 i (some (vi kc)) (some (vi z2))) rfl rfl (lr rfl) ?_
      have hk : jKp R1 R2 := by
        rcases hz2 with ⟨-, q⟩ | ⟨-, q, -⟩
        · exact jKp.trans (jKp.fault (v := 0) rfl) (jKp.fault q)
        · exact jKp.fault q
      have e60 : R2 60 0 = R1 60 0 := by
        rcases hz2 with ⟨-, q⟩ | ⟨-, q, -⟩
        · rw [q, xr_o rfl (by decide), xr_o rfl (by decide)]
        · rw [xr_o q (by decide)]
      have hc2 : (kc = 0 ∧ R2 30 0 = 0 ∧ R1 60 0 = z2 ∧ (-2147483648 ≤ z2 ∧ z2 < 2147483648)) ∨ (kc = 1 ∧ R2 30 0 = 1) := by
        rcases hcase with ⟨c1, c2, c3⟩ | ⟨c1, c2⟩
        · rcases hz2 with ⟨q, -⟩ | ⟨-, q, q2⟩
          · omega
          · have hr := hJ.rch c2
            exact Or.inl ⟨c1, xr_s q, by rw [c3, q2]; exact hr.1, by rw [q2, ← hr.1]; omega⟩
        · rcases hz2 with ⟨-, q⟩ | ⟨q, -⟩
          · exact Or.inr ⟨c1, by rw [q, xr_s rfl]⟩
          · omega
      exact t_reach hM1 (hJ.2.1) i kc z2 hk3 (by rcases hc2 with q | q <;> omega) (fun q => by rw [e60]; rcases hc2 with w | w; (exact w.2.2.1); omega) (fun q => by rcases hc2 with w | w; (exact w.2.2.2); omega) _ _ hcn hsn (nx σ1 R2 (hJ.scr hk).all)
    rcases hz with ⟨z, R0, hzr, hz, hR1, hr⟩ | ⟨x, q, hz, hq, -, hr⟩
    · rcases hz with ⟨-, q, q2, -⟩ | ⟨q0, q1, q2, q3⟩
      · cases q2
      · have hrr := (h.rch q0).2
        have ez : z = R 21 k := vi_inj hzr (by omega) q1
        cases hr
        rw [q3] at hR1
        have hk := jKp.out hR1
        have hJ := h.scr hk
        have k1 : R1 1 = R 1 := hk.1 1 (by decide) (by decide) (by decide) (by decide) (by decide) (by decide) (by decide) (by decide)
        have k21 : R1 21 = R 21 := hk.1 21 (by decide) (by decide) (by decide) (by decide) (by decide) (by decide) (by decide) (by decide)
        have k61 : R1 61 = R 61 := hk.1 61 (by decide) (by decide) (by decide) (by decide) (by decide) (by decide) (by decide) (by decide)
        rw [q2] at fin ⊢
        exact fin 0 f (by omega) hJ ⟨rfl, rfl, rfl, rfl⟩ (by rw [k61, hkk]) (Or.inl ⟨rfl, by rw [k1]; exact q0, by rw [hR1, xr_s rfl, ← hR1, k21, ez]⟩)
    · rcases hz with ⟨q0, q', q2, q3, q4⟩ | ⟨-, q1, -⟩
      · have hq' : q = (11, 1) := by simpa using hq
        rw [hq'] at hr
        cases hr
        have hJ := h.exc (q', 11, 0) (fun _ => 0)
        rw [← q3, ← q4] at hJ
        have s : ∀ b, b < f → σ1 b = σ b := fun b hb => by rw [q3]; exact xsu_ne _ _ (by omega)
        have kk : ∀ b, b < f → R1 b = R b := fun b hb => by rw [q4]; exact xru_ne _ _ (by omega)
        exact fin 1 (f + 1) (by omega) hJ ⟨s 61 (by omega), s 1 (by omega), s 30 (by omega), s 60 (by omega)⟩ (by rw [kk 61 (by omega), hkk]) (Or.inr ⟨rfl, by rw [kk 1 (by omega)]; exact q0⟩)
      · cases q1
end LOPS6
