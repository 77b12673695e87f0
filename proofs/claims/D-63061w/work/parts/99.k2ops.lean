/-! the law: costs, typing -/
/-- as jKp, but for the costs -/
def jKc (R R' : xR) : Prop := (∀ a, a ≠ 16 → a ≠ 17 → a ≠ 18 → a ≠ 30 → a ≠ 49 → a ≠ 50 → a ≠ 57 → a ≠ 60 → a ≠ 6 → a ≠ 7 → a ≠ 51 → a ≠ 52 → R' a = R a) ∧ ∀ i, i ≠ 0 → i ≠ 27 → i ≠ 28 → R' 30 i = R 30 i
theorem jA.cst {σ : xS} {R R' : xR} {len : Nat} {ρ : Int → Int} {e2 : Int} {cap2 : Nat} {e3 n3 : Int} {cap3 : Nat} {π : Int → Int} {e4 n4 : Int} {cap4 : Nat} {f : Int} {n : Nat} {D : List (List Int × Int)} {a : auT} {e0 : xEn} (h : jA σ R len ρ e2 cap2 e3 n3 cap3 π e4 n4 cap4 f n D a e0) (hk : jKc R R') (hC : jCs R') : jA σ R' len ρ e2 cap2 e3 n3 cap3 π e4 n4 cap4 f n D a e0 := by
  obtain ⟨h1, h2, h3, h4, h5, h6, h7, h8, h9, h10, h11, h12⟩ := h
  have k : ∀ b, b ≠ 16 → b ≠ 17 → b ≠ 18 → b ≠ 30 → b ≠ 49 → b ≠ 50 → b ≠ 57 → b ≠ 60 → b ≠ 6 → b ≠ 7 → b ≠ 51 → b ≠ 52 → R' b = R b := hk.1
  have ki := hk.2
  have eg : gM R' = gM R := gM_kp (ki 3 (by decide) (by decide) (by decide)) (fun b hb => k b (by omega) (by omega) (by omega) (by omega) (by omega) (by omega) (by omega) (by omega) (by omega) (by omega) (by omega) (by omega))
  have e1 : R' 1 = R 1 := k 1 (by decide) (by decide) (by decide) (by decide) (by decide) (by decide) (by decide) (by decide) (by decide) (by decide) (by decide) (by decide)
  have e48 : R' 48 = R 48 := k 48 (by decide) (by decide) (by decide) (by decide) (by decide) (by decide) (by decide) (by decide) (by decide) (by decide) (by decide) (by decide)
  have e8 : R' 8 = R 8 := k 8 (by decide) (by decide) (by decide) (by decide) (by decide) (by decide) (by decide) (by decide) (by decide) (by decide) (by decide) (by decide)
  have e10 : R' 10 = R 10 := k 10 (by decide) (by decide) (by decide) (by decide) (by decide) (by decide) (by decide) (by decide) (by decide) (by decide) (by decide) (by decide)
  have e11 : R' 11 = R 11 := k 11 (by decide) (by decide) (by decide) (by decide) (by decide) (by decide) (by decide) (by decide) (by decide) (by decide) (by decide) (by decide)
  have e32 : R' 32 = R 32 := k 32 (by decide) (by decide) (by decide) (by decide) (by decide) (by decide) (by decide) (by decide) (by decide) (by decide) (by decide) (by decide)
  have e44 : R' 44 = R 44 := k 44 (by decide) (by decide) (by decide) (by decide) (by decide) (by decide) (by decide) (by decide) (by decide) (by decide) (by decide) (by decide)
  have e61 : R' 61 = R 61 := k 61 (by decide) (by decide) (by decide) (by decide) (by decide) (by decide) (by decide) (by decide) (by decide) (by decide) (by decide) (by decide)
  have x15 := ki 15 (by decide) (by decide) (by decide)
  have x16 := ki 16 (by decide) (by decide) (by decide)
  have x2 := ki 2 (by decide) (by decide) (by decide)
  have x22 := ki 22 (by decide) (by decide) (by decide)
  have x23 := ki 23 (by decide) (by decide) (by decide)
  have x12 := ki 12 (by decide) (by decide) (by decide)
  have eEn : enE (mEnv R') e0 ↔ enE (mEnv R) e0 := by
    unfold enE mEnv
    dsimp only
    rw [x15, e48, x16]
  refine ⟨h1, h2, ?_, ?_, ?_, ?_, ?_, ?_, ?_, ?_, ?_, ?_⟩
  · unfold jSc; rw [e61]; exact h3
  · rw [eg]; exact h4.kp (fun b hb => k b (by omega) (by omega) (by omega) (by omega) (by omega) (by omega) (by omega) (by omega) (by omega) (by omega) (by omega) (by omega))
  · unfold jTy sbI at *; rw [e10, e11, e32, x2]; exact h5
  · unfold jTx at *; rw [e1, x15, e8, e48]; exact h6
  · exact hC
  · rw [e44]; exact h8
  · rw [e1]; exact h9
  · exact ⟨h10.1.kept x22 (fun p q hp => by rw [k p (by omega) (by omega) (by omega) (by omega) (by omega) (by omega) (by omega) (by omega) (by omega) (by omega) (by omega) (by omega)]), h10.2.1.keep (by rw [e1]) (fun b hb => k b (by omega) (by omega) (by omega) (by omega) (by omega) (by omega) (by omega) (by omega) (by omega) (by omega) (by omega) (by omega)), h10.2.2.1, by rw [e1, x23]; exact h10.2.2.2.1, by rw [e1]; exact h10.2.2.2.2⟩
  · rcases h11 with q | ⟨q1, q2, q3, q4⟩
    · exact Or.inl (by rw [e1, x12]; exact q)
    · refine Or.inr ⟨by rw [e1]; exact q1, by rw [x12]; exact q2, q3.keep (ki 3 (by decide) (by decide) (by decide)) x12 (fun p q hp => by rw [k p (by omega) (by omega) (by omega) (by omega) (by omega) (by omega) (by omega) (by omega) (by omega) (by omega) (by omega) (by omega)]), ?_⟩
      rw [eg]
      exact q4.kp (fun b hb => k b (by omega) (by omega) (by omega) (by omega) (by omega) (by omega) (by omega) (by omega) (by omega) (by omega) (by omega) (by omega)) (by rw [e1]) (by rw [e1])
  · unfold jRp at *
    rw [x16, eg, e48, x15, eEn]
    exact h12
section LOPS2
variable {X : xCtx} {σ : xS} {R : xR} {len : Nat} {ρ : Int → Int} {e2 : Int} {cap2 : Nat} {e3 n3 : Int} {cap3 : Nat} {π : Int → Int} {e4 n4 : Int} {cap4 : Nat} {f : Int} {n : Nat} {D : List (List Int × Int)} {a : auT} {e0 : xEn}
set_option maxHeartbeats 2000000 in
theorem op_cost (h : jA σ R len ρ e2 cap2 e3 n3 cap3 π e4 n4 cap4 f n D a e0) (i : Int) (hi : 0 ≤ i ∧ i + 3 < (len : Int)) (cn sn : Nat) (hcn : cn ≤ 600096) (hsn : sn ≤ 7301386) (nx : lNx X len i cn sn) : V X m_L lB σ R cn sn 263 (lL σ i none none) [] := by
  have hD := h.2.2.2.1.1
  have hM := h.1
  have hC := h.2.2.2.2.2.2.1
  have hs1 := h.2.2.1.2.2 (i + 1) (by omega) (by omega)
  have hs2 := h.2.2.1.2.2 (i + 2) (by omega) (by omega)
  have hs3 := h.2.2.1.2.2 (i + 3) (by omega) (by omega)
  -- both calls, the middle argument being there
  have mid : ∀ ou : Int, (ou = 0 ∧ R 61 (i + 2) = 0) ∨ (ou = 1 ∧ R 61 (i + 2) ≠ 0) → V X m_L lB σ R cn sn 284 (lL σ i none none) [vi ou, vi (R 61 (i + 1)), .ref (σ 1).1] := by
    intro ou ho
    refine x_scr h (c := 3) (by omega) d_L_284 d_L_285 d_L_287 d_L_288 d_L_289 ?_
    refine x_cvm 1 (As := [vi (R 61 (i + 1)), vi ou, vi (R 61 (i + 3))]) (c_D_cost hD (R 61 (i + 1)) ou (R 61 (i + 3)) hs1 (by omega) hs3) cs_W_64 (thisD hD) rfl rfl (lr rfl) d_L_290 (lr rfl) ⟨hcn, hsn⟩ (fun z1 R1 hz1 => ?_)
    have k1 : ∀ b, b ≠ 6 → b ≠ 7 → R1 b = R b := fun b b1 b2 => by
      rcases hz1 with ⟨-, -, q⟩ | ⟨-, -, q⟩
      · rw [q]
      · funext x
        by_cases c : ou = 0
        · rw [if_pos c] at q; exact xr_o q b1
        · rw [if_neg c] at q; exact xr_o q b2
    have hz01 : z1 = 0 ∨ z1 = 1 := by
      rcases hz1 with ⟨-, q, -⟩ | ⟨-, q, -⟩ <;> omega
    have e61 : R1 61 = R 61 := k1 61 (by decide) (by decide)
    have hS1 : (σ 61).2 = (32, len) := h.2.2.1.1
    have hl9 := h.2.2.1.2.1
    -- the model's call
    have mid2 : V X m_L lB σ R1 cn sn 314 (lL σ i none none) [vi ou, vi (R 61 (i + 1)), .ref (σ 30).1, vi z1] := by
      refine x_aload_n d_L_314 0 rfl rfl ?_
      refine x_iload d_L_315 rfl ?_
      refine x_iconst d_L_317 ?_
      refine x_iadd d_L_318 ?_
      refine x_iald 61 (R 61 (i + 3)) hS1 rfl ⟨by decide, rfl, by omega⟩ rfl (by omega) (by rw [e61]) d_L_319 ?_
      refine x_cvm 30 (As := [vi (R 61 (i + 1)), vi ou, vi (R 61 (i + 3))]) (c_P_cost hM (R 61 (i + 1)) ou (R 61 (i + 3)) hs1 (by omega) hs3) cs_W_68 (thisM hM) rfl rfl (lr rfl) d_L_320 (lr rfl) ⟨hcn, hsn⟩ (fun z2 R2 hz2 => ?_)
      rcases hz1 with ⟨c1, q1, q2⟩ | ⟨c1, q1, q2⟩
      · rcases hz2 with ⟨-, p1, p2⟩ | ⟨c2, -⟩
        · refine x_icmp_eq (tgt := 640) d_L_323 rfl (by omega) (by omega) (fun c => ?_) (fun c => by omega)
          rw [q2] at p2
          exact nx σ R2 (h.scr (jKp.fault p2)).all
        · exact absurd c1 c2
      · rcases hz2 with ⟨c2, -⟩ | ⟨-, p1, p2⟩
        · exact absurd c2 c1
        · refine x_icmp_eq (tgt := 640) d_L_323 rfl (by omega) (by omega) (fun c => ?_) (fun c => by omega)
          refine nx σ R2 (h.cst ⟨fun b b1 b2 b3 b4 b5 b6 b7 b8 b9 b10 b11 b12 => ?_, fun j j0 j1 j2 => ?_⟩ (fun x x0 x1 => ?_)).all
          · rw [← k1 b b9 b10]
            funext x
            by_cases c : ou = 0
            · rw [if_pos c] at p2; rw [xr_o p2 b11, xr_o rfl b4]
            · rw [if_neg c] at p2; rw [xr_o p2 b12, xr_o rfl b4]
          · rw [← k1 30 (by decide) (by decide)]
            by_cases c : ou = 0
            · rw [if_pos c] at p2; rw [xr_o p2 (by decide), xr_d rfl j0]
            · rw [if_neg c] at p2; rw [xr_o p2 (by decide), xr_d rfl j0]
          · obtain ⟨g1, g2, g3, g4⟩ := hC x x0 x1
            by_cases c : ou = 0
            · rw [if_pos c] at p2 q2
              have e6 : R2 6 x = R1 6 x := by rw [xr_o p2 (by decide), xr_o rfl (by decide)]
              have e7 : R2 7 x = R 7 x := by rw [xr_o p2 (by decide), xr_o rfl (by decide), xr_o q2 (by decide)]
              have e52 : R2 52 x = R 52 x := by rw [xr_o p2 (by decide), xr_o rfl (by decide), xr_o q2 (by decide)]
              by_cases cx : x = R 61 (i + 1)
              · have a1 : R2 51 x = R 61 (i + 3) := by rw [cx]; exact xr_s p2
                have a2 : R1 6 x = R 61 (i + 3) := by rw [cx]; exact xr_s q2
                rw [e6, e7, e52, a1, a2]
                exact ⟨rfl, g2, by omega, g4⟩
              · have a1 : R2 51 x = R 51 x := by rw [xr_d p2 cx, xr_o rfl (by decide), xr_o q2 (by decide)]
                have a2 : R1 6 x = R 6 x := xr_d q2 cx
                rw [e6, e7, e52, a1, a2]
                exact ⟨g1, g2, g3, g4⟩
            · rw [if_neg c] at p2 q2
              have e7 : R2 7 x = R1 7 x := by rw [xr_o p2 (by decide), xr_o rfl (by decide)]
              have e6 : R2 6 x = R 6 x := by rw [xr_o p2 (by decide), xr_o rfl (by decide), xr_o q2 (by decide)]
              have e51 : R2 51 x = R 51 x := by rw [xr_o p2 (by decide), xr_o rfl (by decide), xr_o q2 (by decide)]
              by_cases cx : x = R 61 (i + 1)
              · have a1 : R2 52 x = R 61 (i + 3) := by rw [cx]; exact xr_s p2
                have a2 : R1 7 x = R 61 (i + 3) := by rw [cx]; exact xr_s q2
                rw [e6, e7, e51, a1, a2]
                exact ⟨g1, rfl, g3, by omega⟩
              · have a1 : R2 52 x = R 52 x := by rw [xr_d p2 cx, xr_o rfl (by decide), xr_o q2 (by decide)]
                have a2 : R1 7 x = R 7 x := xr_d q2 cx
                rw [e6, e7, e51, a1, a2]
                exact ⟨g1, g2, g3, g4⟩
    refine x_aload_n d_L_293 2 rfl rfl ?_
    refine x_aload_n d_L_294 0 rfl rfl ?_
    refine x_iload d_L_295 rfl ?_
    refine x_iconst d_L_297 ?_
    refine x_iadd d_L_298 ?_
    refine x_iald 61 (R 61 (i + 1)) hS1 rfl ⟨by decide, rfl, by omega⟩ rfl (by omega) (by rw [e61]) d_L_299 ?_
    refine x_aload_n d_L_300 0 rfl rfl ?_
    refine x_iload d_L_301 rfl ?_
    refine x_iconst d_L_303 ?_
    refine x_iadd d_L_304 ?_
    refine x_iald 61 (R 61 (i + 2)) hS1 rfl ⟨by decide, rfl, by omega⟩ rfl (by omega) (by rw [e61]) d_L_305 ?_
    rcases ho with ⟨o1, o2⟩ | ⟨o1, o2⟩
    · refine x_if_eq (tgt := 313) d_L_306 rfl (by omega) (fun c => ?_) (fun c => absurd o2 c)
      refine x_iconst d_L_313 ?_
      rw [o1] at mid2
      exact mid2
    · refine x_if_eq (tgt := 313) d_L_306 rfl (by omega) (fun c => absurd c o2) (fun c => ?_)
      refine x_iconst d_L_309 ?_
      refine x_goto (tgt := 314) d_L_310 rfl ?_
      rw [o1] at mid2
      exact mid2
  refine x_aload_n d_L_263 1 rfl rfl ?_
  refine x_scr h (c := 1) (by omega) d_L_264 d_L_265 d_L_267 d_L_268 d_L_269 ?_
  refine x_scr h (c := 2) (by omega) d_L_270 d_L_271 d_L_273 d_L_274 d_L_275 ?_
  refine x_if_eq (tgt := 283) d_L_276 rfl (by omega) (fun c => ?_) (fun c => ?_)
  · refine x_iconst d_L_283 ?_
    exact mid 0 (Or.inl ⟨rfl, c⟩)
  · refine x_iconst d_L_279 ?_
    refine x_goto (tgt := 284) d_L_280 rfl ?_
    exact mid 1 (Or.inr ⟨rfl, c⟩)
end LOPS2
