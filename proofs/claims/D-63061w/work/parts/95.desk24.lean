/-! the desk: made -/
/-- look, 5 - j steps being made -/
def LK (σ : xS) (G : xGr) (a : auT) (u υ : Int → Int) (m eU : Int) (capU : Nat) (p cost guard : Int) (j : Nat) : Prop := ∀ (R : xR) (st : List Int) (D : List (List Int × Int)) (S A P Lf : Int), lkC σ R G a u υ m eU capU p → ndI (dEv R p) st cost → st.length + j = 5 → dNw R (dEv R p) st → dSk R st → dFd R D → S = (ndP (dEv R p) st).1 → A = (ndP (dEv R p) st).2.1 → P = (ndP (dEv R p) st).2.2.2.1 → Lf = cost - (ndP (dEv R p) st).2.2.1 → 0 < Lf →
  Ct m_D_look (7 + 2 * j) 0 0 [.ref (σ 1).1, vi S, vi A, vi (st.length : Int), vi P, vi Lf, vi guard] σ R (Zv σ (fun R1 => lkP (dEv R p) R S (st.length : Int) D (srF G a (dEv R p) cost guard (j + 2) st 8 0) R1))
/-- what comes of a step that may be made -/
noncomputable def mdF (G : xGr) (a : auT) (e : xEn) (cost guard : Int) (j : Nat) (c : Int) (st : List Int) : List (List Int × Int) := if cost - (ndP e (c :: st)).2.2.1 = 0 then (if c = 7 then [] else jd G a e guard (c :: st)) else srF G a e cost guard (j + 1) (c :: st) 8 0
theorem sr_mdF {G : xGr} {a : auT} {e : xEn} {cost guard : Int} {j : Nat} {c : Int} {st : List Int} (h : ndK G a e cost st c) : sr G a e cost guard (j + 2) st c = mdF G a e cost guard j c st := by
  unfold mdF
  by_cases hs : (ndP e (c :: st)).2.2.1 = cost
  · rw [sr_end h hs, if_pos (show cost - (ndP e (c :: st)).2.2.1 = 0 by omega)]
  · rw [sr_go h hs, if_neg (by omega)]
def MD (σ : xS) (G : xGr) (a : auT) (u υ : Int → Int) (m eU : Int) (capU : Nat) (p cost guard : Int) (j : Nat) : Prop := ∀ (R : xR) (c : Int) (st : List Int) (D : List (List Int × Int)) (S A P Lf : Int), lkC σ R G a u υ m eU capU p → ndI (dEv R p) (c :: st) cost → st.length + j = 5 → dNw R (dEv R p) (c :: st) → dSk R st → dFd R D → S = (ndP (dEv R p) (c :: st)).1 → A = (ndP (dEv R p) (c :: st)).2.1 → P = (ndP (dEv R p) (c :: st)).2.2.2.1 → Lf = cost - (ndP (dEv R p) (c :: st)).2.2.1 →
  Ct m_D_made (6 + 2 * j) 0 0 [.ref (σ 1).1, vi S, vi A, vi (st.length : Int), vi c, vi P, vi Lf, vi guard] σ R (Zv σ (fun R1 => lkP (dEv R p) R S (st.length : Int) D (mdF G a (dEv R p) cost guard j c st) R1))
theorem dSk.push {R R1 : xR} {st : List Int} {c : Int} (h : dSk R st) (e : R1 = xup R 18 (st.length : Int) c) : dSk R1 (c :: st) := by
  intro i hi
  have hi' : i < st.length + 1 := hi
  by_cases ei : i = st.length
  · rw [ei, xr_s e]
    show c = (c :: st).getD (st.length + 1 - 1 - st.length) 0
    rw [show st.length + 1 - 1 - st.length = 0 by omega]
    rfl
  · rw [xr_d e (by omega), h i (by omega)]
    show _ = (c :: st).getD (st.length + 1 - 1 - i) 0
    rw [show st.length + 1 - 1 - i = (st.length - 1 - i) + 1 by omega, List.getD_cons_succ]
set_option maxHeartbeats 4000000 in
set_option maxRecDepth 100000 in
theorem md_of {σ : xS} (hD : dSh σ) {G : xGr} {a : auT} {u υ : Int → Int} {m eU : Int} {capU : Nat} {p cost guard : Int} (hcost : cost ≤ 3) (hgd : 0 ≤ guard ∧ guard ≤ 3) (j : Nat) (hj : j ≤ 5) (h : ∀ i, j = i + 1 → LK σ G a u υ m eU capU p cost guard i) : MD σ G a u υ m eU capU p cost guard j := by
  intro R c st D S A P Lf hC hI hlen hNw hSk hFd hS hA hP hL
  refine Ct.of [some (.ref (σ 1).1), some (vi S), some (vi A), some (vi (st.length : Int)), some (vi c), some (vi P), some (vi Lf), some (vi guard)] rfl (by decide +kernel) (lr rfl) (fun X => ?_)
  obtain ⟨Z, hZ⟩ : ∃ Z : xZ, Z = Zv σ (fun R1 => lkP (dEv R p) R S (st.length : Int) D (mdF G a (dEv R p) cost guard j c st) R1) := ⟨_, rfl⟩
  rw [← hZ]
  have hd1 := hD.1.at 0 (k := 1) (t := 17) (n := 0) rfl
  have hrg := ndV.rng hC.2.2.2 hI.1 hI.2.1
  have hcr := hI.1 c List.mem_cons_self
  have hps := hI.2.2.1
  have hsm := hI.2.2.2
  have hll : (((c :: st).length : Nat) : Int) = (st.length : Int) + 1 := by rw [List.length_cons]; omega
  rw [hll] at hrg
  refine x_aload_n d_D_made_0 0 rfl rfl ?_
  refine x_getc 1 17 18 18 fl_D_59 tk_17_17 hd1 rfl rfl d_D_made_1 ?_
  refine x_iload_n d_D_made_4 3 rfl rfl ?_
  refine x_iload d_D_made_5 rfl ?_
  refine x_iast 18 (hD.1.at 11 rfl) rfl ⟨by decide, rfl, by decide⟩ rfl (by omega) d_D_made_7 (fun R1 hR1 => ?_)
  have hz1 : dFz R R1 := dFz.rf.up hR1 (by decide)
  have hC1 := hC.fz hz1
  have hev := hz1.ev p
  have k1 : ∀ b, b ≠ 18 → R1 b = R b := fun b hb => by funext i; exact xr_o hR1 hb
  have hSk1 : dSk R1 (c :: st) := hSk.push hR1
  have hNw1 : dNw R1 (dEv R1 p) (c :: st) := by rw [hev]; exact fun k k0 k1' => by rw [k1 17 (by decide)]; exact hNw k k0 k1'
  have hFd1 : dFd R1 D := hFd.keep (by rw [k1 1 (by decide)]) (fun b hb => k1 b (by omega))
  have hI1 : ndI (dEv R1 p) (c :: st) cost := by rw [hev]; exact hI
  have i18 : ∀ i, 0 ≤ i → i < (st.length : Int) → R1 18 i = R 18 i := fun i i0 i1 => xr_d hR1 (by omega)
  -- from the row (c :: st) to the row st
  have hback : ∀ (F : List (List Int × Int)) (R2 : xR), mdF G a (dEv R p) cost guard j c st = F → lkP (dEv R1 p) R1 S (((c :: st).length : Nat) : Int) D F R2 → Z (.returned none) σ R2 := by
    intro F R2 hF hq
    obtain ⟨q1, q2, q3, q4⟩ := hq
    rw [hZ]
    exact ⟨rfl, rfl, hz1.trans q1, by rw [hF]; exact q2, fun k k0 k1' => by rw [q3 k k0 k1', k1 17 (by decide)], fun i i0 i1 => by rw [q4 i i0 (by omega), i18 i i0 i1]⟩
  refine x_iload d_D_made_8 rfl ?_
  refine x_if_le (tgt := 31) d_D_made_10 rfl (by omega) (fun c1 => ?_) (fun c1 => ?_)
  · have hL0 : Lf = 0 := by omega
    refine x_iload d_D_made_31 rfl ?_
    refine x_bipush d_D_made_33 rfl ?_
    refine x_icmp_eq (tgt := 49) d_D_made_35 rfl (by omega) (by omega) (fun c2 => ?_) (fun c2 => ?_)
    · refine x_vret d_D_made_49 rfl (lr rfl) (lr rfl) (hback [] R1 ?_ (lkP.zero hFd1))
      unfold mdF
      rw [if_pos (by omega), if_pos c2]
    · refine x_aload_n d_D_made_38 0 rfl rfl ?_
      refine x_iload_n d_D_made_39 1 rfl rfl ?_
      refine x_iload_n d_D_made_40 2 rfl rfl ?_
      refine x_iload_n d_D_made_41 3 rfl rfl ?_
      refine x_iconst d_D_made_42 ?_
      refine x_iadd d_D_made_43 ?_
      refine x_iload d_D_made_44 rfl ?_
      rw [← hll]
      refine x_cvv 1 (As := [vi S, vi A, vi (((c :: st).length : Nat) : Int), vi guard]) (c_D_judge hD G a u υ m eU capU p hC1 (c :: st) cost hI1 hcost (by rw [List.length_cons]; omega) hNw1 hSk1 D hFd1 guard hgd S A (by rw [hev]; exact hS) (by rw [hev]; exact hA)) cs_D_253 (thisD hD) rfl rfl (lr rfl) d_D_made_46 (by show 5 + 1 ≤ 6 + 2 * j; omega) ⟨lr rfl, lr rfl⟩ (fun R2 hR2 => ?_)
      refine x_vret d_D_made_49 rfl (lr rfl) (lr rfl) (hback _ R2 ?_ hR2)
      unfold mdF
      rw [if_pos (by omega), if_neg c2, hev]
  · obtain ⟨i, hi⟩ : ∃ i, j = i + 1 := ⟨j - 1, by omega⟩
    have hLK := h i hi R1 (c :: st) D S A P Lf hC1 hI1 (by rw [List.length_cons]; omega) hNw1 hSk1 hFd1 (by rw [hev]; exact hS) (by rw [hev]; exact hA) (by rw [hev]; exact hP) (by rw [hev]; exact hL) (by omega)
    refine x_aload_n d_D_made_13 0 rfl rfl ?_
    refine x_iload_n d_D_made_14 1 rfl rfl ?_
    refine x_iload_n d_D_made_15 2 rfl rfl ?_
    refine x_iload_n d_D_made_16 3 rfl rfl ?_
    refine x_iconst d_D_made_17 ?_
    refine x_iadd d_D_made_18 ?_
    refine x_iload d_D_made_19 rfl ?_
    refine x_iload d_D_made_21 rfl ?_
    refine x_iload d_D_made_23 rfl ?_
    rw [← hll]
    refine x_csv (As := [.ref (σ 1).1, vi S, vi A, vi (((c :: st).length : Nat) : Int), vi P, vi Lf, vi guard]) hLK cs_D_249 rfl rfl (lr rfl) d_D_made_25 (by show 7 + 2 * i + 1 ≤ 6 + 2 * j; omega) ⟨lr rfl, lr rfl⟩ (fun R2 hR2 => ?_)
    refine x_goto (tgt := 49) d_D_made_28 rfl ?_
    refine x_vret d_D_made_49 rfl (lr rfl) (lr rfl) (hback _ R2 ?_ hR2)
    unfold mdF
    rw [if_neg (by omega), hev, hi]
