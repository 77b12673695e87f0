/-! the law: operations that make nothing -/
abbrev lZ : xZ := fun o _ _ => o = .returned (some (vi 1))
abbrev lB : xB := (20, 600096, 7301386, lZ)
abbrev lL (σ : xS) (i : Int) (l5 l6 : Option Value) : List (Option Value) := [some (.ref (σ 61).1), some (.ref (σ 1).1), some (.ref (σ 30).1), some (.ref (σ 60).1), some (vi i), l5, l6]
/-- on with the next operation -/
def lNx (X : xCtx) (len : Nat) (i : Int) (cn sn : Nat) : Prop := ∀ σ R, jAll σ R len → V X m_L lB σ R cn sn 640 (lL σ i none none) []
section LOPS
variable {X : xCtx} {σ : xS} {R : xR} {len : Nat} {ρ : Int → Int} {e2 : Int} {cap2 : Nat} {e3 n3 : Int} {cap3 : Nat} {π : Int → Int} {e4 n4 : Int} {cap4 : Nat} {f : Int} {n : Nat} {D : List (List Int × Int)} {a : auT} {e0 : xEn}
theorem jA.all (h : jA σ R len ρ e2 cap2 e3 n3 cap3 π e4 n4 cap4 f n D a e0) : jAll σ R len := ⟨ρ, e2, cap2, e3, n3, cap3, π, e4, n4, cap4, f, n, D, a, e0, h⟩
theorem jA.len6 (h : jA σ R len ρ e2 cap2 e3 n3 cap3 π e4 n4 cap4 f n D a e0) : ∀ q ∈ D, q.1.length ≤ 6 := fun q hq => by
  have hne : D ≠ [] := fun e => by rw [e] at hq; cases hq
  exact ((h.2.2.2.2.2.2.2.2.2.2.2 hne).2.2.2.2.2 q hq).2.2.2.2.1.2
set_option maxHeartbeats 2000000 in
theorem op_price (h : jA σ R len ρ e2 cap2 e3 n3 cap3 π e4 n4 cap4 f n D a e0) (i : Int) (cn sn : Nat) (hcn : cn ≤ 600096) (hsn : sn ≤ 7301386) (nx : lNx X len i cn sn) : V X m_L lB σ R cn sn 465 (lL σ i none none) [] := by
  have hD := h.2.2.2.1.1
  have hM := h.1
  have hF := h.2.2.2.2.2.2.2.2.2.1
  refine x_aload_n d_L_465 1 rfl rfl ?_
  refine x_cvi 1 (As := []) (c_D_price hD) cs_W_81 (thisD hD) rfl rfl (lr rfl) d_L_466 (lr rfl) ⟨hcn, hsn⟩ ?_
  refine x_aload_n d_L_469 2 rfl rfl ?_
  refine x_cvm 30 (As := []) (c_P_price hM) cs_W_84 (thisM hM) rfl rfl (lr rfl) d_L_470 (lr rfl) ⟨hcn, hsn⟩ (fun z R1 hz => ?_)
  have e := hF.2.2.2.1
  have e2 := hF.2.2.2.2
  rw [hz.2]
  refine x_icmp_eq (tgt := 640) d_L_473 rfl (by omega) (by omega) (fun c => ?_) (fun c => by omega)
  exact nx σ R1 (h.scr (jKp.fault hz.1)).all
/-- a number of the script is read -/
theorem x_scr {pc : Nat} {i : Int} {c : Int} {l5 l6 : Option Value} {cn sn : Nat} {st : List Value} (h : jA σ R len ρ e2 cap2 e3 n3 cap3 π e4 n4 cap4 f n D a e0) (hi : 0 ≤ i + c ∧ i + c < (len : Int)) (d0 : decode m_L.2.1 pc = .ok (.aload_n 0, 1)) (d1 : decode m_L.2.1 (pc + 1) = .ok (.iload 4, 2)) (d2 : decode m_L.2.1 (pc + 3) = .ok (.iconst c, 1)) (d3 : decode m_L.2.1 (pc + 4) = .ok (.iadd, 1)) (d4 : decode m_L.2.1 (pc + 5) = .ok (.iaload, 1)) (kk : V X m_L lB σ R cn sn (pc + 6) (lL σ i l5 l6) (vi (R 61 (i + c)) :: st)) : V X m_L lB σ R cn sn pc (lL σ i l5 l6) st := by
  have hS := h.2.2.1
  refine x_aload_n d0 0 rfl rfl ?_
  refine x_iload d1 rfl ?_
  refine x_iconst d2 ?_
  refine x_iadd d3 ?_
  exact x_iald 61 (R 61 (i + c)) hS.1 rfl ⟨by decide, rfl, by have := hS.2.1; omega⟩ rfl hi rfl d4 kk
set_option maxHeartbeats 2000000 in
theorem op_letter (h : jA σ R len ρ e2 cap2 e3 n3 cap3 π e4 n4 cap4 f n D a e0) (i : Int) (hi : 0 ≤ i ∧ i + 3 < (len : Int)) (cn sn : Nat) (hcn : cn ≤ 600096) (hsn : sn ≤ 7301386) (nx : lNx X len i cn sn) : V X m_L lB σ R cn sn 590 (lL σ i none none) [] := by
  have hD := h.2.2.2.1.1
  have hM := h.1
  have hT := h.2.2.2.2.2.1
  have hs := h.2.2.1.2.2 (i + 1) (by omega) (by omega)
  refine x_aload_n d_L_590 1 rfl rfl ?_
  refine x_scr h (c := 1) (by omega) d_L_591 d_L_592 d_L_594 d_L_595 d_L_596 ?_
  refine x_cvi 1 (As := [vi (R 61 (i + 1))]) (c_D_letter hD (R 61 (i + 1)) hs hT.2.1) cs_W_91 (thisD hD) rfl rfl (lr rfl) d_L_597 (lr rfl) ⟨hcn, hsn⟩ ?_
  refine x_aload_n d_L_600 2 rfl rfl ?_
  refine x_scr h (c := 1) (by omega) d_L_601 d_L_602 d_L_604 d_L_605 d_L_606 ?_
  refine x_cvm 30 (As := [vi (R 61 (i + 1))]) (c_P_letter hM (R 61 (i + 1)) hs (by have := hT.1; have := hT.2.1; omega)) cs_W_94 (thisM hM) rfl rfl (lr rfl) d_L_607 (lr rfl) ⟨hcn, hsn⟩ (fun z R1 hz => ?_)
  have e : z = (if R 61 (i + 1) < 0 ∨ R 1 5 ≤ R 61 (i + 1) then -1 else R 8 (R 61 (i + 1))) := by
    rw [hz.2, ← hT.1]
    by_cases c : R 61 (i + 1) < 0 ∨ R 1 5 ≤ R 61 (i + 1)
    · rw [if_pos c, if_pos c]
    · rw [if_neg c, if_neg c]
      exact (hT.2.2 _ (by omega) (by omega)).1.symm
  have hr : -1 ≤ z ∧ z < 100 := by
    rw [e]
    by_cases c : R 61 (i + 1) < 0 ∨ R 1 5 ≤ R 61 (i + 1)
    · rw [if_pos c]; omega
    · rw [if_neg c]
      have := (hT.2.2 (R 61 (i + 1)) (by omega) (by omega)).2
      omega
  rw [← e]
  refine x_icmp_eq (tgt := 640) d_L_610 rfl (by omega) (by omega) (fun c => ?_) (fun c => absurd rfl c)
  exact nx σ R1 (h.scr (jKp.fault hz.1)).all
set_option maxHeartbeats 2000000 in
theorem op_step (h : jA σ R len ρ e2 cap2 e3 n3 cap3 π e4 n4 cap4 f n D a e0) (i : Int) (hi : 0 ≤ i ∧ i + 3 < (len : Int)) (cn sn : Nat) (hcn : cn ≤ 600096) (hsn : sn ≤ 7301386) (nx : lNx X len i cn sn) : V X m_L lB σ R cn sn 428 (lL σ i none none) [] := by
  have hD := h.2.2.2.1.1
  have hM := h.1
  have hF := h.2.2.2.2.2.2.2.2.2.1
  have h6 := h.len6
  have hs1 := h.2.2.1.2.2 (i + 1) (by omega) (by omega)
  have hs2 := h.2.2.1.2.2 (i + 2) (by omega) (by omega)
  have e21 := hF.2.1.2.1
  have e22 := hF.1.1
  have h40 := hF.2.2.1
  have hln : ∀ j, 0 ≤ j → j < R 1 21 → 0 ≤ R 20 j ∧ R 20 j ≤ 6 := fun j j0 j1 => by
    have hk : j.toNat < D.length := by omega
    have q1 := List.getElem?_eq_getElem hk
    have q2 := (hF.2.1.2.2 j.toNat _ q1).1
    have q3 := h6 _ (List.mem_of_getElem? q1)
    rw [show ((j.toNat : Nat) : Int) = j by omega] at q2
    omega
  refine x_aload_n d_L_428 1 rfl rfl ?_
  refine x_scr h (c := 1) (by omega) d_L_429 d_L_430 d_L_432 d_L_433 d_L_434 ?_
  refine x_scr h (c := 2) (by omega) d_L_435 d_L_436 d_L_438 d_L_439 d_L_440 ?_
  refine x_cvi 1 (As := [vi (R 61 (i + 1)), vi (R 61 (i + 2))]) (c_D_step hD (R 61 (i + 1)) (R 61 (i + 2)) hs1 hs2 (by omega) hln) cs_W_76 (thisD hD) rfl rfl (lr rfl) d_L_441 (lr rfl) ⟨hcn, hsn⟩ ?_
  refine x_aload_n d_L_444 2 rfl rfl ?_
  refine x_scr h (c := 1) (by omega) d_L_445 d_L_446 d_L_448 d_L_449 d_L_450 ?_
  refine x_scr h (c := 2) (by omega) d_L_451 d_L_452 d_L_454 d_L_455 d_L_456 ?_
  refine x_cvm 30 (As := [vi (R 61 (i + 1)), vi (R 61 (i + 2))]) (c_P_step hM (R 61 (i + 1)) (R 61 (i + 2)) hs1 hs2 (by omega)) cs_W_80 (thisM hM) rfl rfl (lr rfl) d_L_457 (lr rfl) ⟨hcn, hsn⟩ (fun z R1 hz => ?_)
  rw [step_eq hF h6 (R 61 (i + 1)) (R 61 (i + 2)), ← hz.2]
  have hr : -1 ≤ z ∧ z < 100 := by
    rw [hz.2]
    by_cases c : R 61 (i + 1) < 0 ∨ R 30 22 ≤ R 61 (i + 1) ∨ R 61 (i + 2) < 0 ∨ 6 < R 61 (i + 2)
    · rw [if_pos c]; omega
    · rw [if_neg c]
      have hk : (R 61 (i + 1)).toNat < D.length := by omega
      have q1 := List.getElem?_eq_getElem hk
      have q2 := (hF.1.2 _ _ q1 (by omega)).1 (R 61 (i + 2)).toNat (by omega)
      rw [show (((R 61 (i + 1)).toNat : Nat) : Int) = R 61 (i + 1) by omega, show (((R 61 (i + 2)).toNat : Nat) : Int) = R 61 (i + 2) by omega] at q2
      rw [q2]
      have hne : D ≠ [] := fun e => by rw [e] at hk; cases hk
      have hst := ((h.2.2.2.2.2.2.2.2.2.2.2 hne).2.2.2.2.2 _ (List.mem_of_getElem? q1)).1
      by_cases c2 : (R 61 (i + 2)).toNat < (D[(R 61 (i + 1)).toNat]'hk).1.length
      · rw [if_pos c2]
        have := getD_ok hst ((D[(R 61 (i + 1)).toNat]'hk).1.length - 1 - (R 61 (i + 2)).toNat) (by omega)
        omega
      · rw [if_neg c2]; omega
  refine x_icmp_eq (tgt := 640) d_L_460 rfl (by omega) (by omega) (fun c => ?_) (fun c => absurd rfl c)
  exact nx σ R1 (h.scr (jKp.fault hz.1)).all
set_option maxHeartbeats 2000000 in
theorem op_count (h : jA σ R len ρ e2 cap2 e3 n3 cap3 π e4 n4 cap4 f n D a e0) (i : Int) (hi : 0 ≤ i ∧ i + 3 < (len : Int)) (cn sn : Nat) (hcn : cn ≤ 600096) (hsn : sn ≤ 7301386) (nx : lNx X len i cn sn) : V X m_L lB σ R cn sn 615 (lL σ i none none) [] := by
  have hD := h.2.2.2.1.1
  have hM := h.1
  have hRu := h.2.2.2.1.2.2.1
  have hs1 := h.2.2.1.2.2 (i + 1) (by omega) (by omega)
  have h7 := h.2.2.2.2.2.2.2.1
  have hst := h.2.2.2.2.2.2.2.2.1
  have hC := h.2.2.2.2.2.2.2.2.2.2.1
  have h12 : (R 1 12 = 0 ∨ R 1 12 = 1) ∧ (0 ≤ R 30 12 ∧ R 30 12 ≤ 40) := by
    rcases hC with ⟨q1, q2, -⟩ | ⟨q1, q2, -⟩
    · exact ⟨Or.inl q1, by omega⟩
    · exact ⟨Or.inr q1, by omega⟩
  have hg10 : 0 ≤ R 30 3 ∧ R 30 3 ≤ 10 := ⟨hRu.1.1, hRu.1.2.1⟩
  refine x_aload_n d_L_615 1 rfl rfl ?_
  refine x_scr h (c := 1) (by omega) d_L_616 d_L_617 d_L_619 d_L_620 d_L_621 ?_
  refine x_cvi 1 (As := [vi (R 61 (i + 1))]) (c_D_count hD (R 61 (i + 1)) (gM R).1 e2 cap2 hRu.2.1 hs1 h12.1) cs_W_95 (thisD hD) rfl rfl (lr rfl) d_L_622 (lr rfl) ⟨hcn, hsn⟩ ?_
  refine x_aload_n d_L_625 2 rfl rfl ?_
  refine x_scr h (c := 1) (by omega) d_L_626 d_L_627 d_L_629 d_L_630 d_L_631 ?_
  refine x_cvm 30 (As := [vi (R 61 (i + 1))]) (c_P_count hM h7 h12.2 (R 61 (i + 1)) hs1) cs_W_98 (thisM hM) rfl rfl (lr rfl) d_L_632 (lr rfl) ⟨hcn, hsn⟩ (fun z R1 hz => ?_)
  have hsm := sumF_rng (f := mCt R) (c := 7) (mCt_rng R) (55 * R 30 12).toNat
  have e : z = (if R 61 (i + 1) = 0 then (gM R).1 else if R 61 (i + 1) = 1 then (if R 1 12 = 0 then 0 else R 1 10) else if R 61 (i + 1) = 2 then (if R 1 12 = 0 then 0 else R 1 13) else -1) := by
    rw [hz.2]
    by_cases c0 : R 61 (i + 1) = 0
    · rw [if_pos c0, if_pos c0]; rfl
    · rw [if_neg c0, if_neg c0]
      rcases hC with ⟨q1, q2, -⟩ | ⟨q1, q2, q3, q4⟩
      · rw [if_pos q1, if_pos q1, q2]
        rfl
      · have hn : ¬ R 1 12 = 0 := by omega
        rw [if_neg hn, if_neg hn, q4.2.1, q4.2.2.1, q3.2.2.2.1, mCt_all (by have := q3.2.2.2.1; omega) q3.2.2.2.2.1]
  have hr : -1 ≤ z ∧ z < 100000 := by
    rw [hz.2]
    by_cases c0 : R 61 (i + 1) = 0
    · rw [if_pos c0]; omega
    · rw [if_neg c0]
      by_cases c1 : R 61 (i + 1) = 1
      · rw [if_pos c1]; omega
      · rw [if_neg c1]
        by_cases c2 : R 61 (i + 1) = 2
        · rw [if_pos c2]; omega
        · rw [if_neg c2]; omega
  rw [← e]
  refine x_icmp_eq (tgt := 640) d_L_635 rfl (by omega) (by omega) (fun c => ?_) (fun c => absurd rfl c)
  exact nx σ R1 (h.scr (jKp.fault hz.1)).all
end LOPS
