/-! the desk: judge -/
theorem i2b_of {z : Int} (h : -128 ≤ z ∧ z < 128) : (iI z).toInt8.toInt32 = iI z := by
  have := narb h
  injection this
theorem getD_ok {st : List Int} (h : stOk st) (i : Nat) (hi : i < st.length) : 0 ≤ st.getD i 0 ∧ st.getD i 0 ≤ 7 := by
  rw [List.getD_eq_getElem?_getD, List.getElem?_eq_getElem hi]
  exact h _ (List.getElem_mem hi)
set_option maxHeartbeats 8000000 in
set_option maxRecDepth 100000 in
theorem c_D_judge {σ : xS} {R : xR} (hD : dSh σ) (G : xGr) (a : auT) (u υ : Int → Int) (m eU : Int) (capU : Nat) (p : Int) (hC : lkC σ R G a u υ m eU capU p) (st : List Int) (cost : Int) (hI : ndI (dEv R p) st cost) (hcost : cost ≤ 3) (hst : 1 ≤ st.length ∧ st.length ≤ 6) (hNw : dNw R (dEv R p) st) (hSk : dSk R st) (D : List (List Int × Int)) (hFd : dFd R D) (guard : Int) (hgd : 0 ≤ guard ∧ guard ≤ 3) (S A : Int) (hS : S = (ndP (dEv R p) st).1) (hA : A = (ndP (dEv R p) st).2.1) :
    Ct m_D_judge 5 0 0 [.ref (σ 1).1, vi S, vi A, vi (st.length : Int), vi guard] σ R (Zv σ (fun R1 => lkP (dEv R p) R S (st.length : Int) D (jd G a (dEv R p) guard st) R1)) := by
  refine Ct.of [some (.ref (σ 1).1), some (vi S), some (vi A), some (vi (st.length : Int)), some (vi guard), none, none, none, none] rfl (by decide +kernel) (lr rfl) (fun X => ?_)
  obtain ⟨Z, hZ⟩ : ∃ Z : xZ, Z = Zv σ (fun R1 => lkP (dEv R p) R S (st.length : Int) D (jd G a (dEv R p) guard st) R1) := ⟨_, rfl⟩
  rw [← hZ]
  have hd1 := hD.1.at 0 (k := 1) (t := 17) (n := 0) rfl
  obtain ⟨e, he⟩ : ∃ e, e = dEv R p := ⟨_, rfl⟩
  have heok := hC.2.2.2
  have hrg := ndV.rng heok hI.1 hI.2.1
  have hsm := hI.2.2.2
  have e1 : e.1 = R 1 5 := by rw [he]; rfl
  have e8 : e.2.1 = R 8 := by rw [he]; rfl
  rw [← he] at hI hrg heok hNw hS hA hZ hsm
  rw [← hS, ← hA] at hrg
  have hsz := heok.1
  rw [e1] at hrg hsz
  obtain ⟨w1, w2, w3, w4, w5, w6, w7, w8, w9⟩ := hrg
  have hl41 := hFd.1
  -- behind the copying
  have h38 : ∀ R1 : xR, (∀ b, b ≠ 17 → R1 b = R b) → (∀ k, 0 ≤ k → k < ndN e st → R1 17 k = ndT e st k) → V X m_D_judge (5, 0, 0, Z) σ R1 0 0 38 [some (.ref (σ 1).1), some (vi S), some (vi A), some (vi (st.length : Int)), some (vi guard), some (vi (ndN e st)), some (vi (R 1 5)), none, none] [] := by
    intro R1 hk1 hnt
    have hnN : ndN e st = S + (R 1 5 - A) := by unfold ndN; rw [← hS, ← hA, e1]
    have hz1 : dFz R R1 := ⟨fun b _ _ b3 _ _ _ _ => hk1 b b3, fun j _ => by rw [hk1 1 (by decide)]⟩
    have hC1 := hC.fz hz1
    have hwd : ∀ k, 0 ≤ k → k < ndN e st → 0 ≤ R1 17 k ∧ R1 17 k < 6 := fun k k0 k1 => by
      rw [hnt k k0 k1]
      unfold ndT
      by_cases c : k < (ndP e st).1
      · rw [if_pos c]; exact w9 k k0 (by omega)
      · rw [if_neg c]
        exact heok.2.1 _ (by omega) (by rw [e1]; omega)
    refine x_aload_n d_D_judge_38 0 rfl rfl ?_
    refine x_aload_n d_D_judge_39 0 rfl rfl ?_
    refine x_getc 1 16 17 17 fl_D_56 tk_17_16 hd1 rfl rfl d_D_judge_40 ?_
    refine x_iload d_D_judge_43 rfl ?_
    refine x_cvm 1 (As := [.ref (σ 17).1, vi (ndN e st)]) (c_D_wrong hD G a u υ m eU capU hC1.1 hC.2.1 hC1.2.2.1 17 (ndN e st) 30 (hD.1.at 10 rfl) (by decide) (by omega) (by omega) hwd) cs_D_238 (thisD hD) rfl rfl (lr rfl) d_D_judge_45 (lr rfl) ⟨lr rfl, lr rfl⟩ (fun w R2 hw => ?_)
    obtain ⟨k2, hpr⟩ := hw
    have hwr := pR.rng (by omega) hwd hpr
    have hpz : pz G a (ndT e st) (ndN e st) = w := by
      rw [← pz_congr (w := R1 17) (w' := ndT e st) hnt]
      exact pz_eq hC.2.1.1 hC.2.1.2.1 hC.2.1.2.2.1 hwd hpr
    have k2' : ∀ b, b ≠ 16 → b ≠ 17 → R2 b = R b := fun b b1 b2 => by rw [k2 b b1, hk1 b b2]
    have hz2 : dFz R R2 := hz1.trans (dFz.w16 k2)
    have e21 : R2 1 21 = (D.length : Int) := by rw [k2' 1 (by decide) (by decide)]; exact hFd.2.1
    have hFd2 : dFd R2 D := hFd.keep (by rw [k2' 1 (by decide) (by decide)]) (fun b hb => k2' b (by omega) (by omega))
    have h17 : ∀ k, 0 ≤ k → k < S → R2 17 k = R 17 k := fun k k0 k1 => by
      rw [k2 17 (by decide), hnt k k0 (by omega), hNw k k0 (by omega)]
      unfold ndT
      rw [if_pos (by omega)]
    have h18 : ∀ i, 0 ≤ i → i < (st.length : Int) → R2 18 i = R 18 i := fun i _ _ => by rw [k2' 18 (by decide) (by decide)]
    -- nothing is kept
    have h91 : (jd G a e guard st = [] ∨ D.length = 41) → ∀ L, V X m_D_judge (5, 0, 0, Z) σ R2 0 0 91 L [] := by
      intro hq L
      refine x_vret d_D_judge_91 rfl (lr rfl) (lr rfl) ?_
      show Z _ _ _
      rw [hZ]
      refine ⟨rfl, rfl, hz2, ?_, h17, h18⟩
      rcases hq with q | q
      · rw [q, List.append_nil, tk_le hl41]; exact hFd2
      · rw [tk_full q]; exact hFd2
    -- one is kept
    have h92 : ∀ rc : Int, ¬ (0 ≤ w ∧ w < S + guard) → rc = (if w < 0 then R 1 5 - A else w - S) → D.length ≤ 40 → V X m_D_judge (5, 0, 0, Z) σ R2 0 0 92 [some (.ref (σ 1).1), some (vi S), some (vi A), some (vi (st.length : Int)), some (vi guard), some (vi (ndN e st)), some (vi w), some (vi rc), none] [] := by
      intro rc hyes hrc h40
      have hjd : jd G a e guard st = [(st, rc)] := by
        rw [jd_yes (by rw [hpz, ← hS]; exact hyes), hpz, ← hS, ← hA, e1, hrc]
      have lp : ∀ (mw k : Nat) (R3 : xR), st.length - k = mw → k ≤ st.length → (∀ b, b ≠ 450 + (D.length : Int) → R3 b = R2 b) → (∀ i : Nat, i < k → R3 (450 + (D.length : Int)) (i : Int) = st.getD (st.length - 1 - i) 0) → V X m_D_judge (5, 0, 0, Z) σ R3 0 0 95 [some (.ref (σ 1).1), some (vi S), some (vi A), some (vi (st.length : Int)), some (vi guard), some (vi (ndN e st)), some (vi w), some (vi rc), some (vi (k : Int))] [] := by
        intro mw
        induction mw using Nat.strongRecOn with
        | _ mw ih =>
          intro k R3 hm hk g1 g2
          have e213 : R3 1 21 = (D.length : Int) := by rw [g1 1 (by omega)]; exact e21
          refine x_iload d_D_judge_95 rfl ?_
          refine x_iload_n d_D_judge_97 3 rfl rfl ?_
          refine x_icmp_ge (tgt := 127) d_D_judge_98 rfl (by omega) (by omega) (fun c => ?_) (fun c => ?_)
          · have ek : k = st.length := by omega
            refine x_aload_n d_D_judge_127 0 rfl rfl ?_
            refine x_getc 1 19 20 20 fl_D_67 tk_17_19 hd1 rfl rfl d_D_judge_128 ?_
            refine x_aload_n d_D_judge_131 0 rfl rfl ?_
            refine x_geti 1 21 21 (D.length : Int) fl_D_95 tk_17_21 hd1 rfl rfl e213 d_D_judge_132 ?_
            refine x_iload_n d_D_judge_135 3 rfl rfl ?_
            refine x_iast 20 (hD.1.at 13 rfl) rfl ⟨by decide, rfl, by decide⟩ rfl (by omega) d_D_judge_136 (fun R4 hR4 => ?_)
            refine x_aload_n d_D_judge_137 0 rfl rfl ?_
            refine x_getc 1 20 21 21 fl_D_70 tk_17_20 hd1 rfl rfl d_D_judge_138 ?_
            refine x_aload_n d_D_judge_141 0 rfl rfl ?_
            refine x_geti 1 21 21 (D.length : Int) fl_D_95 tk_17_21 hd1 rfl rfl (by rw [xr_o hR4 (by decide)]; exact e213) d_D_judge_142 ?_
            refine x_iload d_D_judge_145 rfl ?_
            refine x_iast 21 (hD.1.at 14 rfl) rfl ⟨by decide, rfl, by decide⟩ rfl (by omega) d_D_judge_147 (fun R5 hR5 => ?_)
            refine x_aload_n d_D_judge_148 0 rfl rfl ?_
            refine x_dup d_D_judge_149 rfl ?_
            refine x_geti 1 21 21 (D.length : Int) fl_D_95 tk_17_21 hd1 rfl rfl (by rw [xr_o hR5 (by decide), xr_o hR4 (by decide)]; exact e213) d_D_judge_150 ?_
            refine x_iconst d_D_judge_153 ?_
            refine x_iadd d_D_judge_154 ?_
            refine x_puti 1 21 21 fp_D_95 tk_17_21 hd1 rfl rfl d_D_judge_155 (fun R6 hR6 => ?_)
            refine x_vret d_D_judge_158 rfl (lr rfl) (lr rfl) ?_
            show Z _ _ _
            rw [hZ]
            have k6 : ∀ b, b ≠ 1 → b ≠ 20 → b ≠ 21 → R6 b = R3 b := fun b b1 b2 b3 => by
              funext i
              rw [xr_o hR6 b1, xr_o hR5 b3, xr_o hR4 b2]
            refine ⟨rfl, rfl, ?_, ?_, fun k k0 k1 => by rw [k6 17 (by decide) (by decide) (by decide), g1 17 (by omega)]; exact h17 k k0 k1, fun i i0 i1 => by rw [k6 18 (by decide) (by decide) (by decide), g1 18 (by omega)]; exact h18 i i0 i1⟩
            · refine hz2.trans ⟨fun b b1 b2 b3 b4 b5 b6 b7 => by rw [k6 b b1 b5 b6, g1 b (by omega)], fun j hj => by rw [xr_d hR6 hj, xr_o hR5 (by decide), xr_o hR4 (by decide), g1 1 (by omega)]⟩
            · rw [hjd, tk_le (by rw [List.length_append]; show D.length + 1 ≤ 41; omega)]
              refine hFd2.add h40 (xr_s hR6) (fun b hb => ⟨?_, ?_⟩) ?_ ?_ (fun b b0 b1 => by rw [k6 b (by omega) (by omega) (by omega), g1 b (by omega)]) (fun i hi => by rw [k6 _ (by omega) (by omega) (by omega)]; exact g2 i (by omega))
              · rw [xr_o hR6 (by decide), xr_o hR5 (by decide), xr_d hR4 hb, g1 20 (by omega)]
              · rw [xr_o hR6 (by decide), xr_d hR5 hb, xr_o hR4 (by decide), g1 21 (by omega)]
              · rw [xr_o hR6 (by decide), xr_o hR5 (by decide), xr_s hR4]
              · rw [xr_o hR6 (by decide), xr_s hR5]
          · have hg9 := getD_ok hI.1 (st.length - 1 - k) (by omega)
            have e18 : R3 18 (k : Int) = st.getD (st.length - 1 - k) 0 := by
              rw [g1 18 (by omega), h18 k (by omega) (by omega)]
              exact hSk k (by omega)
            refine x_aload_n d_D_judge_101 0 rfl rfl ?_
            refine x_getc 1 18 19 19 fl_D_64 tk_17_18 hd1 rfl rfl d_D_judge_102 ?_
            refine x_aload_n d_D_judge_105 0 rfl rfl ?_
            refine x_geti 1 21 21 (D.length : Int) fl_D_95 tk_17_21 hd1 rfl rfl e213 d_D_judge_106 ?_
            refine x_aald 19 (v := .ref (σ (450 + (D.length : Int))).1) (hD.1.at 12 rfl) rfl ⟨by decide, rfl, by decide⟩ (by omega) (row44 (by omega)) d_D_judge_109 ?_
            refine x_iload d_D_judge_110 rfl ?_
            refine x_aload_n d_D_judge_112 0 rfl rfl ?_
            refine x_getc 1 17 18 18 fl_D_59 tk_17_17 hd1 rfl rfl d_D_judge_113 ?_
            refine x_iload d_D_judge_116 rfl ?_
            refine x_iald 18 (st.getD (st.length - 1 - k) 0) (hD.1.at 11 rfl) rfl ⟨by decide, rfl, by decide⟩ rfl (by omega) e18 d_D_judge_118 ?_
            refine x_i2b d_D_judge_119 (st.getD (st.length - 1 - k) 0) (i2b_of (by omega)) ?_
            refine x_bast (450 + (D.length : Int)) (hD.2.2 (D.length : Int) (by omega) (by omega)) rfl ⟨by decide, rfl, by decide⟩ rfl (by omega) (narb (by omega)) d_D_judge_120 (fun R4 hR4 => ?_)
            refine x_iinc d_D_judge_121 rfl [some (.ref (σ 1).1), some (vi S), some (vi A), some (vi (st.length : Int)), some (vi guard), some (vi (ndN e st)), some (vi w), some (vi rc), some (vi ((k + 1 : Nat) : Int))] rfl rfl (lr rfl) ?_
            refine x_goto (tgt := 95) d_D_judge_124 rfl ?_
            refine ih _ (by omega) (k + 1) R4 rfl (by omega) (fun b hb => by rw [← g1 b hb]; funext i; exact xr_o hR4 hb) (fun i hi => ?_)
            by_cases ei : i = k
            · rw [ei, xr_s hR4]
            · rw [xr_d hR4 (by omega)]; exact g2 i (by omega)
      refine x_iconst d_D_judge_92 ?_
      refine x_istore d_D_judge_93 [some (.ref (σ 1).1), some (vi S), some (vi A), some (vi (st.length : Int)), some (vi guard), some (vi (ndN e st)), some (vi w), some (vi rc), some (vi ((0 : Nat) : Int))] rfl rfl (lr rfl) ?_
      exact lp _ 0 R2 rfl (by omega) (fun _ _ => rfl) (fun i hi => by omega)
    -- is there room?
    have h82 : ∀ rc : Int, ¬ (0 ≤ w ∧ w < S + guard) → rc = (if w < 0 then R 1 5 - A else w - S) → V X m_D_judge (5, 0, 0, Z) σ R2 0 0 82 [some (.ref (σ 1).1), some (vi S), some (vi A), some (vi (st.length : Int)), some (vi guard), some (vi (ndN e st)), some (vi w), some (vi rc), none] [] := by
      intro rc hyes hrc
      refine x_aload_n d_D_judge_82 0 rfl rfl ?_
      refine x_geti 1 21 21 (D.length : Int) fl_D_95 tk_17_21 hd1 rfl rfl e21 d_D_judge_83 ?_
      refine x_bipush d_D_judge_86 rfl ?_
      refine x_icmp_le (tgt := 92) d_D_judge_88 rfl (by omega) (by omega) (fun c => ?_) (fun c => ?_)
      · exact h92 rc hyes hrc (by omega)
      · exact h91 (Or.inr (by omega)) _
    refine x_istore d_D_judge_48 [some (.ref (σ 1).1), some (vi S), some (vi A), some (vi (st.length : Int)), some (vi guard), some (vi (ndN e st)), some (vi w), none, none] rfl rfl (lr rfl) ?_
    refine x_iload d_D_judge_50 rfl ?_
    refine x_if_ge (tgt := 64) d_D_judge_52 rfl (by omega) (fun c => ?_) (fun c => ?_)
    · refine x_iload d_D_judge_64 rfl ?_
      refine x_iload_n d_D_judge_66 1 rfl rfl ?_
      refine x_isub d_D_judge_67 ?_
      refine x_istore d_D_judge_68 [some (.ref (σ 1).1), some (vi S), some (vi A), some (vi (st.length : Int)), some (vi guard), some (vi (ndN e st)), some (vi w), some (vi (w - S)), none] rfl rfl (lr rfl) ?_
      refine x_iload d_D_judge_70 rfl ?_
      refine x_if_lt (tgt := 82) d_D_judge_72 rfl (by omega) (fun c2 => by omega) (fun c2 => ?_)
      refine x_iload d_D_judge_75 rfl ?_
      refine x_iload d_D_judge_77 rfl ?_
      refine x_icmp_lt (tgt := 91) d_D_judge_79 rfl (by omega) (by omega) (fun c3 => ?_) (fun c3 => ?_)
      · exact h91 (Or.inl (jd_no (by rw [hpz, ← hS]; omega))) _
      · exact h82 _ (by omega) (by rw [if_neg (by omega)])
    · refine x_aload_n d_D_judge_55 0 rfl rfl ?_
      refine x_geti 1 5 5 (R 1 5) fl_D_236 tk_17_5 hd1 rfl rfl (by rw [k2' 1 (by decide) (by decide)]) d_D_judge_56 ?_
      refine x_iload_n d_D_judge_59 2 rfl rfl ?_
      refine x_isub d_D_judge_60 ?_
      refine x_goto (tgt := 68) d_D_judge_61 rfl ?_
      refine x_istore d_D_judge_68 [some (.ref (σ 1).1), some (vi S), some (vi A), some (vi (st.length : Int)), some (vi guard), some (vi (ndN e st)), some (vi w), some (vi (R 1 5 - A)), none] rfl rfl (lr rfl) ?_
      refine x_iload d_D_judge_70 rfl ?_
      refine x_if_lt (tgt := 82) d_D_judge_72 rfl (by omega) (fun c2 => ?_) (fun c2 => by omega)
      exact h82 _ (by omega) (by rw [if_pos (by omega)])
  -- the copying
  have lp0 : ∀ (mw : Nat) (k : Int) (R1 : xR), (R 1 5 - k).toNat = mw → A ≤ k → k ≤ R 1 5 → (∀ b, b ≠ 17 → R1 b = R b) → (∀ i, 0 ≤ i → i < S → R1 17 i = R 17 i) → (∀ i, S ≤ i → i < S + (k - A) → R1 17 i = R 8 (A + (i - S))) → V X m_D_judge (5, 0, 0, Z) σ R1 0 0 6 [some (.ref (σ 1).1), some (vi S), some (vi A), some (vi (st.length : Int)), some (vi guard), some (vi (S + (k - A))), some (vi k), none, none] [] := by
    intro mw
    induction mw using Nat.strongRecOn with
    | _ mw ih =>
      intro k R1 hm k0 k1 g1 g2 g3
      refine x_iload d_D_judge_6 rfl ?_
      refine x_aload_n d_D_judge_8 0 rfl rfl ?_
      refine x_geti 1 5 5 (R 1 5) fl_D_236 tk_17_5 hd1 rfl rfl (by rw [g1 1 (by decide)]) d_D_judge_9 ?_
      refine x_icmp_ge (tgt := 38) d_D_judge_12 rfl (by omega) (by omega) (fun c => ?_) (fun c => ?_)
      · have ek : k = R 1 5 := by omega
        have hnN : ndN e st = S + (k - A) := by unfold ndN; rw [← hS, ← hA, e1, ek]
        rw [← hnN, ek]
        refine h38 R1 g1 (fun i i0 i1 => ?_)
        unfold ndT
        rw [← hS, ← hA, e8]
        by_cases c2 : i < S
        · rw [if_pos c2, g2 i i0 c2]; exact hNw i i0 (by omega)
        · rw [if_neg c2]; exact g3 i (by omega) (by omega)
      · refine x_aload_n d_D_judge_15 0 rfl rfl ?_
        refine x_getc 1 16 17 17 fl_D_56 tk_17_16 hd1 rfl rfl d_D_judge_16 ?_
        refine x_iload d_D_judge_19 rfl ?_
        refine x_aload_n d_D_judge_21 0 rfl rfl ?_
        refine x_getc 1 4 8 8 fl_D_32 tk_17_4 hd1 rfl rfl d_D_judge_22 ?_
        refine x_iload d_D_judge_25 rfl ?_
        refine x_iald 8 (R 8 k) (hD.1.at 4 rfl) rfl ⟨by decide, rfl, by decide⟩ rfl (by omega) (by rw [g1 8 (by decide)]) d_D_judge_27 ?_
        refine x_iast 17 (hD.1.at 10 rfl) rfl ⟨by decide, rfl, by decide⟩ rfl (by omega) d_D_judge_28 (fun R2 hR2 => ?_)
        refine x_iinc d_D_judge_29 rfl [some (.ref (σ 1).1), some (vi S), some (vi A), some (vi (st.length : Int)), some (vi guard), some (vi (S + (k - A) + 1)), some (vi k), none, none] rfl rfl (lr rfl) ?_
        refine x_iinc d_D_judge_32 rfl [some (.ref (σ 1).1), some (vi S), some (vi A), some (vi (st.length : Int)), some (vi guard), some (vi (S + (k - A) + 1)), some (vi (k + 1)), none, none] rfl rfl (lr rfl) ?_
        refine x_goto (tgt := 6) d_D_judge_35 rfl ?_
        rw [show S + (k - A) + 1 = S + (k + 1 - A) by omega]
        refine ih _ (by omega) (k + 1) R2 rfl (by omega) (by omega) (fun b hb => by rw [← g1 b hb]; funext i; exact xr_o hR2 hb) (fun i i0 i1 => by rw [xr_d hR2 (by omega)]; exact g2 i i0 i1) (fun i i0 i1 => ?_)
        by_cases ei : i = S + (k - A)
        · rw [ei, xr_s hR2, show A + (S + (k - A) - S) = k by omega]
        · rw [xr_d hR2 ei]; exact g3 i i0 (by omega)
  refine x_iload_n d_D_judge_0 1 rfl rfl ?_
  refine x_istore d_D_judge_1 [some (.ref (σ 1).1), some (vi S), some (vi A), some (vi (st.length : Int)), some (vi guard), some (vi S), none, none, none] rfl rfl (lr rfl) ?_
  refine x_iload_n d_D_judge_3 2 rfl rfl ?_
  refine x_istore d_D_judge_4 [some (.ref (σ 1).1), some (vi S), some (vi A), some (vi (st.length : Int)), some (vi guard), some (vi S), some (vi A), none, none] rfl rfl (lr rfl) ?_
  have hl := lp0 _ A R rfl (Int.le_refl _) (by omega) (fun _ _ => rfl) (fun _ _ _ => rfl) (fun i i0 i1 => by omega)
  rw [show S + (A - A) = S by omega] at hl
  exact hl
