/-! the model: spread, close (walks printed by gen/model3.py) -/
theorem sy_or {p l v x : Int} (h : x = if p < l then v else -1) : (p < l ∧ x = v) ∨ (¬ p < l ∧ x = -1) := by
  by_cases c : p < l
  · rw [if_pos c] at h; exact Or.inl ⟨c, h⟩
  · rw [if_neg c] at h; exact Or.inr ⟨c, h⟩
theorem mPa.meas {R R1 R2 : xR} {s r p more : Int} (hs : 0 ≤ s ∧ s ≤ 41) (h1 : mCl R R1 s) (h : mPa R R1 R2 s r p more) : 2 * mWant R2 s + more.toNat < 2 * mWant R1 s + 1 := by
  by_cases e : more = 0
  · have : mWant R2 s = mWant R1 s := by
      rcases h.2.2 with ⟨-, a, -⟩ | ⟨a, -⟩
      · unfold mWant
        congr 2
        funext i
        rw [a]
      · omega
    rw [e, this]
    show 2 * mWant R1 s + 0 < 2 * mWant R1 s + 1
    omega
  · have := h.want hs e
    have := h.m01
    omega
set_option maxHeartbeats 4000000 in
set_option maxRecDepth 100000 in
theorem c_P_spread {σ : xS} {R : xR} (hM : xsh σ mshape) (s x set : Int) (hs : 0 ≤ s ∧ s ≤ 41) (hx : 0 ≤ x ∧ x ≤ 5) (hset : s7 set) (h7 : ∀ i, 0 ≤ i → i < 2310 → s7 (R 44 i)) (hn : 0 ≤ R 30 3 ∧ R 30 3 ≤ 10) (h38 : ∀ r, 0 ≤ r → r < R 30 3 → R 38 r = 0 ∨ R 38 r = 1) (h35 : ∀ r, 0 ≤ r → r < R 30 3 → 0 ≤ R 35 r ∧ R 35 r ≤ 5) : Ct m_P_spread 1 0 0 [.ref (σ 30).1, vi s, vi x, vi set] σ R (Zm σ (fun z R1 => SP R R1 s x set (R 30 3) z)) := by
  refine Ct.of [some (.ref ((σ 30).1)), some (vi s), some (vi x), some (vi set), none, none, none] rfl (by decide +kernel) (lr rfl) (fun X => ?_)
  have hl : ∀ (m : Nat) (r : Int) (z : Int) (R1 : xR), (10 - r).toNat = m → (0 ≤ r ∧ r ≤ R 30 3) → (z = 0 ∨ z = 1) → (SP R R1 s x set r z) → V X m_P_spread (1, 0, 0, Zm σ (fun z R1 => SP R R1 s x set (R 30 3) z)) σ R1 0 0 6 [some (.ref ((σ 30).1)), some (vi s), some (vi x), some (vi set), some (vi z), some (vi r), none] [] := by
    intro m
    induction m using Nat.strongRecOn with
    | _ m ih =>
      intro r z R1 hm hr1 hz1 hsp
      have e3 : R1 30 3 = R 30 3 := hsp.1 30 3 (by decide)
      refine x_iload d_P_spread_6 rfl ?_
      refine x_aload_n d_P_spread_8 0 rfl rfl ?_
      refine x_geti 30 3 3 (R1 30 3) fl_P_90 tk_23_3 (hM.at 0 rfl) rfl rfl rfl d_P_spread_9 ?_
      refine x_icmp_ge (tgt := 100) d_P_spread_12 rfl (by omega) (by omega) (fun c12 => ?_) (fun c12 => ?_)
      · have er : r = R 30 3 := by omega
        refine x_iload d_P_spread_100 rfl ?_
        exact x_zret d_P_spread_102 rfl (narz (by rcases hsp.2.2.2 with q | q <;> omega)) (lr rfl) (lr rfl) (⟨_, rfl, rfl, by rw [← er]; exact hsp⟩)
      · have e38 : R1 38 r = R 38 r := hsp.1 38 r (by decide)
        have g38 := h38 r (by omega) (by omega)
        have e35 : R1 35 r = R 35 r := hsp.1 35 r (by decide)
        have g35 := h35 r (by omega) (by omega)
        have f7 : s7 (R1 44 (55 * s + 5 * r)) := by rw [hsp.2.1 _ (fun r2 a b _ => by omega)]; exact h7 _ (by omega) (by omega)
        have f8 := ior_s7 f7 hset
        have f9 := f7.1
        have f10 := f7.2
        have f11 := f8.1
        have f12 := f8.2
        refine x_bipush d_P_spread_15 rfl ?_
        refine x_iload_n d_P_spread_17 1 rfl rfl ?_
        refine x_imul d_P_spread_18 ?_
        refine x_iconst d_P_spread_19 ?_
        refine x_iload d_P_spread_20 rfl ?_
        refine x_imul d_P_spread_22 ?_
        refine x_iadd d_P_spread_23 ?_
        refine x_istore d_P_spread_24 [some (.ref ((σ 30).1)), some (vi s), some (vi x), some (vi set), some (vi z), some (vi r), some (vi ((55 * s) + (5 * r)))] rfl rfl (lr rfl) ?_
        refine x_aload_n d_P_spread_26 0 rfl rfl ?_
        refine x_getc 30 7 38 38 fl_P_23 tk_23_7 (hM.at 0 rfl) rfl rfl d_P_spread_27 ?_
        refine x_iload d_P_spread_30 rfl ?_
        refine x_zald 38 (R1 38 r) (hM.at 5 rfl) rfl ⟨by decide, rfl, by decide⟩ rfl (by omega) rfl d_P_spread_32 ?_
        refine x_if_eq (tgt := 94) d_P_spread_33 rfl (by omega) (fun c33 => ?_) (fun c33 => ?_)
        · refine x_iinc d_P_spread_94 rfl [some (.ref ((σ 30).1)), some (vi s), some (vi x), some (vi set), some (vi z), some (vi (r + 1)), some (vi ((55 * s) + (5 * r)))] rfl rfl (lr rfl) ?_
          refine x_goto (tgt := 6) d_P_spread_97 rfl ?_
          refine V.forget 6 [some (.ref ((σ 30).1)), some (vi s), some (vi x), some (vi set), some (vi z), some (vi (r + 1)), none] rfl ?_
          exact ih _ (by omega) (r + 1) z R1 rfl (by omega) (by omega) (SP.no hsp (fun q => by first | exact q.1 (by omega) | exact absurd q.2 (by omega)))
        · refine x_aload_n d_P_spread_36 0 rfl rfl ?_
          refine x_getc 30 4 35 35 fl_P_13 tk_23_4 (hM.at 0 rfl) rfl rfl d_P_spread_37 ?_
          refine x_iload d_P_spread_40 rfl ?_
          refine x_iald 35 (R1 35 r) (hM.at 2 rfl) rfl ⟨by decide, rfl, by decide⟩ rfl (by omega) rfl d_P_spread_42 ?_
          refine x_iload_n d_P_spread_43 2 rfl rfl ?_
          refine x_icmp_ne (tgt := 94) d_P_spread_44 rfl (by omega) (by omega) (fun c44 => ?_) (fun c44 => ?_)
          · refine x_iinc d_P_spread_94 rfl [some (.ref ((σ 30).1)), some (vi s), some (vi x), some (vi set), some (vi z), some (vi (r + 1)), some (vi ((55 * s) + (5 * r)))] rfl rfl (lr rfl) ?_
            refine x_goto (tgt := 6) d_P_spread_97 rfl ?_
            refine V.forget 6 [some (.ref ((σ 30).1)), some (vi s), some (vi x), some (vi set), some (vi z), some (vi (r + 1)), none] rfl ?_
            exact ih _ (by omega) (r + 1) z R1 rfl (by omega) (by omega) (SP.no hsp (fun q => by first | exact q.1 (by omega) | exact absurd q.2 (by omega)))
          · refine x_iload d_P_spread_47 rfl ?_
            refine x_if_ne (tgt := 71) d_P_spread_49 rfl (by omega) (fun c49 => ?_) (fun c49 => ?_)
            · refine x_iconst d_P_spread_71 ?_
              refine x_goto (tgt := 76) d_P_spread_72 rfl ?_
              refine x_istore d_P_spread_76 [some (.ref ((σ 30).1)), some (vi s), some (vi x), some (vi set), some (vi 1), some (vi r), some (vi ((55 * s) + (5 * r)))] rfl rfl (lr rfl) ?_
              refine x_aload_n d_P_spread_78 0 rfl rfl ?_
              refine x_getc 30 13 44 44 fl_P_36 tk_23_13 (hM.at 0 rfl) rfl rfl d_P_spread_79 ?_
              refine x_iload d_P_spread_82 rfl ?_
              refine x_aload_n d_P_spread_84 0 rfl rfl ?_
              refine x_getc 30 13 44 44 fl_P_36 tk_23_13 (hM.at 0 rfl) rfl rfl d_P_spread_85 ?_
              refine x_iload d_P_spread_88 rfl ?_
              refine x_iald 44 (R1 44 ((55 * s) + (5 * r))) (hM.at 9 rfl) rfl ⟨by decide, rfl, by decide⟩ rfl (by omega) rfl d_P_spread_90 ?_
              refine x_iload_n d_P_spread_91 3 rfl rfl ?_
              refine x_ior d_P_spread_92 (ior (R1 44 (55 * s + 5 * r)) set) (iI_ior f9 hset.1) ?_
              refine x_iast 44 (hM.at 9 rfl) rfl ⟨by decide, rfl, by decide⟩ rfl (by omega) d_P_spread_93 (fun Q1 hQ1 => ?_)
              refine x_iinc d_P_spread_94 rfl [some (.ref ((σ 30).1)), some (vi s), some (vi x), some (vi set), some (vi 1), some (vi (r + 1)), some (vi ((55 * s) + (5 * r)))] rfl rfl (lr rfl) ?_
              refine x_goto (tgt := 6) d_P_spread_97 rfl ?_
              refine V.forget 6 [some (.ref ((σ 30).1)), some (vi s), some (vi x), some (vi set), some (vi 1), some (vi (r + 1)), none] rfl ?_
              exact ih _ (by omega) (r + 1) 1 Q1 rfl (by omega) (by omega) (SP.yes hsp (by omega) ⟨by omega, by omega⟩ hQ1 (by first | exact Or.inl ⟨rfl, by omega, by omega⟩ | exact Or.inr ⟨rfl, Or.inl (by omega)⟩ | exact Or.inr ⟨rfl, Or.inr (by omega)⟩))
            · refine x_aload_n d_P_spread_52 0 rfl rfl ?_
              refine x_getc 30 13 44 44 fl_P_36 tk_23_13 (hM.at 0 rfl) rfl rfl d_P_spread_53 ?_
              refine x_iload d_P_spread_56 rfl ?_
              refine x_iald 44 (R1 44 ((55 * s) + (5 * r))) (hM.at 9 rfl) rfl ⟨by decide, rfl, by decide⟩ rfl (by omega) rfl d_P_spread_58 ?_
              refine x_iload_n d_P_spread_59 3 rfl rfl ?_
              refine x_ior d_P_spread_60 (ior (R1 44 (55 * s + 5 * r)) set) (iI_ior f9 hset.1) ?_
              refine x_aload_n d_P_spread_61 0 rfl rfl ?_
              refine x_getc 30 13 44 44 fl_P_36 tk_23_13 (hM.at 0 rfl) rfl rfl d_P_spread_62 ?_
              refine x_iload d_P_spread_65 rfl ?_
              refine x_iald 44 (R1 44 ((55 * s) + (5 * r))) (hM.at 9 rfl) rfl ⟨by decide, rfl, by decide⟩ rfl (by omega) rfl d_P_spread_67 ?_
              refine x_icmp_eq (tgt := 75) d_P_spread_68 rfl (by omega) (by omega) (fun c68 => ?_) (fun c68 => ?_)
              · refine x_iconst d_P_spread_75 ?_
                refine x_istore d_P_spread_76 [some (.ref ((σ 30).1)), some (vi s), some (vi x), some (vi set), some (vi 0), some (vi r), some (vi ((55 * s) + (5 * r)))] rfl rfl (lr rfl) ?_
                refine x_aload_n d_P_spread_78 0 rfl rfl ?_
                refine x_getc 30 13 44 44 fl_P_36 tk_23_13 (hM.at 0 rfl) rfl rfl d_P_spread_79 ?_
                refine x_iload d_P_spread_82 rfl ?_
                refine x_aload_n d_P_spread_84 0 rfl rfl ?_
                refine x_getc 30 13 44 44 fl_P_36 tk_23_13 (hM.at 0 rfl) rfl rfl d_P_spread_85 ?_
                refine x_iload d_P_spread_88 rfl ?_
                refine x_iald 44 (R1 44 ((55 * s) + (5 * r))) (hM.at 9 rfl) rfl ⟨by decide, rfl, by decide⟩ rfl (by omega) rfl d_P_spread_90 ?_
                refine x_iload_n d_P_spread_91 3 rfl rfl ?_
                refine x_ior d_P_spread_92 (ior (R1 44 (55 * s + 5 * r)) set) (iI_ior f9 hset.1) ?_
                refine x_iast 44 (hM.at 9 rfl) rfl ⟨by decide, rfl, by decide⟩ rfl (by omega) d_P_spread_93 (fun Q2 hQ2 => ?_)
                refine x_iinc d_P_spread_94 rfl [some (.ref ((σ 30).1)), some (vi s), some (vi x), some (vi set), some (vi 0), some (vi (r + 1)), some (vi ((55 * s) + (5 * r)))] rfl rfl (lr rfl) ?_
                refine x_goto (tgt := 6) d_P_spread_97 rfl ?_
                refine V.forget 6 [some (.ref ((σ 30).1)), some (vi s), some (vi x), some (vi set), some (vi 0), some (vi (r + 1)), none] rfl ?_
                exact ih _ (by omega) (r + 1) 0 Q2 rfl (by omega) (by omega) (SP.yes hsp (by omega) ⟨by omega, by omega⟩ hQ2 (by first | exact Or.inl ⟨rfl, by omega, by omega⟩ | exact Or.inr ⟨rfl, Or.inl (by omega)⟩ | exact Or.inr ⟨rfl, Or.inr (by omega)⟩))
              · refine x_iconst d_P_spread_71 ?_
                refine x_goto (tgt := 76) d_P_spread_72 rfl ?_
                refine x_istore d_P_spread_76 [some (.ref ((σ 30).1)), some (vi s), some (vi x), some (vi set), some (vi 1), some (vi r), some (vi ((55 * s) + (5 * r)))] rfl rfl (lr rfl) ?_
                refine x_aload_n d_P_spread_78 0 rfl rfl ?_
                refine x_getc 30 13 44 44 fl_P_36 tk_23_13 (hM.at 0 rfl) rfl rfl d_P_spread_79 ?_
                refine x_iload d_P_spread_82 rfl ?_
                refine x_aload_n d_P_spread_84 0 rfl rfl ?_
                refine x_getc 30 13 44 44 fl_P_36 tk_23_13 (hM.at 0 rfl) rfl rfl d_P_spread_85 ?_
                refine x_iload d_P_spread_88 rfl ?_
                refine x_iald 44 (R1 44 ((55 * s) + (5 * r))) (hM.at 9 rfl) rfl ⟨by decide, rfl, by decide⟩ rfl (by omega) rfl d_P_spread_90 ?_
                refine x_iload_n d_P_spread_91 3 rfl rfl ?_
                refine x_ior d_P_spread_92 (ior (R1 44 (55 * s + 5 * r)) set) (iI_ior f9 hset.1) ?_
                refine x_iast 44 (hM.at 9 rfl) rfl ⟨by decide, rfl, by decide⟩ rfl (by omega) d_P_spread_93 (fun Q3 hQ3 => ?_)
                refine x_iinc d_P_spread_94 rfl [some (.ref ((σ 30).1)), some (vi s), some (vi x), some (vi set), some (vi 1), some (vi (r + 1)), some (vi ((55 * s) + (5 * r)))] rfl rfl (lr rfl) ?_
                refine x_goto (tgt := 6) d_P_spread_97 rfl ?_
                refine V.forget 6 [some (.ref ((σ 30).1)), some (vi s), some (vi x), some (vi set), some (vi 1), some (vi (r + 1)), none] rfl ?_
                exact ih _ (by omega) (r + 1) 1 Q3 rfl (by omega) (by omega) (SP.yes hsp (by omega) ⟨by omega, by omega⟩ hQ3 (by first | exact Or.inl ⟨rfl, by omega, by omega⟩ | exact Or.inr ⟨rfl, Or.inl (by omega)⟩ | exact Or.inr ⟨rfl, Or.inr (by omega)⟩))
  refine x_iconst d_P_spread_0 ?_
  refine x_istore d_P_spread_1 [some (.ref ((σ 30).1)), some (vi s), some (vi x), some (vi set), some (vi 0), none, none] rfl rfl (lr rfl) ?_
  refine x_iconst d_P_spread_3 ?_
  refine x_istore d_P_spread_4 [some (.ref ((σ 30).1)), some (vi s), some (vi x), some (vi set), some (vi 0), some (vi 0), none] rfl rfl (lr rfl) ?_
  exact hl _ 0 0 R rfl (by omega) (by omega) SP.zero
set_option maxHeartbeats 4000000 in
set_option maxRecDepth 100000 in
theorem c_P_close {σ : xS} {R : xR} (hM : xsh σ mshape) (hg : mGr R) (hp : mPr R) (s : Int) (hs : 0 ≤ s ∧ s ≤ 41) (h7 : ∀ i, 0 ≤ i → i < 2310 → s7 (R 44 i)) : Ct m_P_close 2 0 0 [.ref (σ 30).1, vi s] σ R (Zv σ (fun R1 => (∀ a b, a ≠ 44 → R1 a b = R a b) ∧ (∀ i, (i < 55 * s ∨ 55 * s + 55 ≤ i) → R1 44 i = R 44 i) ∧ (∀ i, 0 ≤ i → i < 2310 → s7 (R1 44 i)) ∧ mIt R1 s = gCl (gM R) (mIt R s))) := by
  refine Ct.of [some (.ref ((σ 30).1)), some (vi s), none, none, none, none, none] rfl (by decide +kernel) (lr rfl) (fun X => ?_)
  have hthis := thisM hM
  have hlw : ∀ (m : Nat) (more1 : Int) (R1 : xR), 2 * mWant R1 s + more1.toNat = m → (more1 = 0 ∨ more1 = 1) → (mCl R R1 s) → (more1 = 0 → mIt R1 s = gCl (gM R) (mIt R s)) → V X m_P_close (2, 0, 0, Zv σ (fun R1 => (∀ a b, a ≠ 44 → R1 a b = R a b) ∧ (∀ i, (i < 55 * s ∨ 55 * s + 55 ≤ i) → R1 44 i = R 44 i) ∧ (∀ i, 0 ≤ i → i < 2310 → s7 (R1 44 i)) ∧ mIt R1 s = gCl (gM R) (mIt R s))) σ R1 0 0 2 [some (.ref ((σ 30).1)), some (vi s), some (vi more1), none, none, none, none] [] := by
    intro m
    induction m using Nat.strongRecOn with
    | _ m ih =>
      intro more1 R1 hm hm1 hcl hdone
      refine x_iload_n d_P_close_2 2 rfl rfl ?_
      refine x_if_eq (tgt := 117) d_P_close_3 rfl (by omega) (fun c3 => ?_) (fun c3 => ?_)
      · exact x_vret d_P_close_117 rfl (lr rfl) (lr rfl) (⟨rfl, rfl, hcl.1, hcl.2.1, hcl.2.2.1, hdone (by omega)⟩)
      · refine x_iconst d_P_close_6 ?_
        refine x_istore_n d_P_close_7 2 rfl [some (.ref ((σ 30).1)), some (vi s), some (vi 0), none, none, none, none] rfl rfl (lr rfl) ?_
        refine x_iconst d_P_close_8 ?_
        refine x_istore_n d_P_close_9 3 rfl [some (.ref ((σ 30).1)), some (vi s), some (vi 0), some (vi 0), none, none, none] rfl rfl (lr rfl) ?_
        have em : more1 = 1 := by omega
        subst em
        have hlr : ∀ (m : Nat) (r : Int) (more2 : Int) (R2 : xR), (11 - r).toNat = m → (0 ≤ r ∧ r ≤ 11) → (more2 = 0 ∨ more2 = 1) → (mPa R R1 R2 s r 0 more2) → V X m_P_close (2, 0, 0, Zv σ (fun R1 => (∀ a b, a ≠ 44 → R1 a b = R a b) ∧ (∀ i, (i < 55 * s ∨ 55 * s + 55 ≤ i) → R1 44 i = R 44 i) ∧ (∀ i, 0 ≤ i → i < 2310 → s7 (R1 44 i)) ∧ mIt R1 s = gCl (gM R) (mIt R s))) σ R2 0 0 10 [some (.ref ((σ 30).1)), some (vi s), some (vi more2), some (vi r), none, none, none] [] := by
          intro m
          induction m using Nat.strongRecOn with
          | _ m ihr =>
            intro r more2 R2 hmr hr1 hmo2 hpa2
            refine x_iload_n d_P_close_10 3 rfl rfl ?_
            refine x_bipush d_P_close_11 rfl ?_
            refine x_icmp_ge (tgt := 114) d_P_close_13 rfl (by omega) (by omega) (fun c13 => ?_) (fun c13 => ?_)
            · refine x_goto (tgt := 2) d_P_close_114 rfl ?_
              refine V.forget 3 [some (.ref ((σ 30).1)), some (vi s), some (vi more2), none, none, none, none] rfl ?_
              have er : r = 11 := by omega
              rw [er] at hpa2
              exact ih _ (by have := hpa2.meas hs hcl; omega) more2 R2 rfl hmo2 hpa2.1 (fun e0 => by rw [e0] at hpa2; exact hpa2.done hg hs.1 hcl)
            · refine x_iconst d_P_close_16 ?_
              refine x_istore d_P_close_17 [some (.ref ((σ 30).1)), some (vi s), some (vi more2), some (vi r), some (vi 0), none, none] rfl rfl (lr rfl) ?_
              have hlp : ∀ (m : Nat) (p : Int) (more : Int) (R3 : xR), (5 - p).toNat = m → (0 ≤ p ∧ p ≤ 5) → (more = 0 ∨ more = 1) → (mPa R R1 R3 s r p more) → V X m_P_close (2, 0, 0, Zv σ (fun R1 => (∀ a b, a ≠ 44 → R1 a b = R a b) ∧ (∀ i, (i < 55 * s ∨ 55 * s + 55 ≤ i) → R1 44 i = R 44 i) ∧ (∀ i, 0 ≤ i → i < 2310 → s7 (R1 44 i)) ∧ mIt R1 s = gCl (gM R) (mIt R s))) σ R3 0 0 19 [some (.ref ((σ 30).1)), some (vi s), some (vi more), some (vi r), some (vi p), none, none] [] := by
                intro m
                induction m using Nat.strongRecOn with
                | _ m ihp =>
                  intro p more R3 hmp hp1 hmo hpa
                  refine x_iload d_P_close_19 rfl ?_
                  refine x_iconst d_P_close_21 ?_
                  refine x_icmp_ge (tgt := 108) d_P_close_22 rfl (by omega) (by omega) (fun c22 => ?_) (fun c22 => ?_)
                  · refine x_iinc d_P_close_108 rfl [some (.ref ((σ 30).1)), some (vi s), some (vi more), some (vi (r + 1)), some (vi p), none, none] rfl rfl (lr rfl) ?_
                    refine x_goto (tgt := 10) d_P_close_111 rfl ?_
                    refine V.forget 4 [some (.ref ((σ 30).1)), some (vi s), some (vi more), some (vi (r + 1)), none, none, none] rfl ?_
                    exact ihr _ (by omega) (r + 1) more R3 rfl (by omega) (by omega) (by rw [show p = 5 by omega] at hpa; exact hpa.row)
                  · have hg3 := hg.moved hpa.1.1
                    have hp3 := hp.moved hpa.1.1
                    have f7 := hpa.1.2.2.1 (55 * s + 5 * r + p) (by omega) (by omega)
                    have f8 := f7.1
                    have f9 := f7.2
                    have f36 := hg3.2.2.1 r (by omega) (by omega)
                    have fn := hg3.1
                    refine x_aload_n d_P_close_25 0 rfl rfl ?_
                    refine x_getc 30 13 44 44 fl_P_36 tk_23_13 (hM.at 0 rfl) rfl rfl d_P_close_26 ?_
                    refine x_bipush d_P_close_29 rfl ?_
                    refine x_iload_n d_P_close_31 1 rfl rfl ?_
                    refine x_imul d_P_close_32 ?_
                    refine x_iconst d_P_close_33 ?_
                    refine x_iload_n d_P_close_34 3 rfl rfl ?_
                    refine x_imul d_P_close_35 ?_
                    refine x_iadd d_P_close_36 ?_
                    refine x_iload d_P_close_37 rfl ?_
                    refine x_iadd d_P_close_39 ?_
                    refine x_iald 44 (R3 44 (((55 * s) + (5 * r)) + p)) (hM.at 9 rfl) rfl ⟨by decide, rfl, by decide⟩ rfl (by omega) rfl d_P_close_40 ?_
                    refine x_istore d_P_close_41 [some (.ref ((σ 30).1)), some (vi s), some (vi more), some (vi r), some (vi p), some (vi (R3 44 (((55 * s) + (5 * r)) + p))), none] rfl rfl (lr rfl) ?_
                    refine x_iload d_P_close_43 rfl ?_
                    refine x_if_eq (tgt := 58) d_P_close_45 rfl (by omega) (fun c45 => ?_) (fun c45 => ?_)
                    · refine x_iconst d_P_close_58 ?_
                      refine x_istore d_P_close_59 [some (.ref ((σ 30).1)), some (vi s), some (vi more), some (vi r), some (vi p), some (vi (R3 44 (((55 * s) + (5 * r)) + p))), some (vi (-1))] rfl rfl (lr rfl) ?_
                      refine x_iload d_P_close_61 rfl ?_
                      refine x_bipush d_P_close_63 rfl ?_
                      refine x_icmp_lt (tgt := 102) d_P_close_65 rfl (by omega) (by omega) (fun c65 => ?_) (fun c65 => ?_)
                      · refine x_iinc d_P_close_102 rfl [some (.ref ((σ 30).1)), some (vi s), some (vi more), some (vi r), some (vi (p + 1)), some (vi (R3 44 (((55 * s) + (5 * r)) + p))), some (vi (-1))] rfl rfl (lr rfl) ?_
                        refine x_goto (tgt := 19) d_P_close_105 rfl ?_
                        refine V.forget 5 [some (.ref ((σ 30).1)), some (vi s), some (vi more), some (vi r), some (vi (p + 1)), none, some (vi (-1))] rfl ?_
                        refine V.forget 6 [some (.ref ((σ 30).1)), some (vi s), some (vi more), some (vi r), some (vi (p + 1)), none, none] rfl ?_
                        exact ihp _ (by omega) (p + 1) more R3 rfl (by omega) (by omega) (hpa.skip hcl (mCa_set0 (by omega)))
                      · exact absurd (by omega) c65
                    · refine x_aload_n d_P_close_48 0 rfl rfl ?_
                      refine x_iload_n d_P_close_49 3 rfl rfl ?_
                      refine x_iload d_P_close_50 rfl ?_
                      refine x_cvi 30 (As := [vi r, vi p]) (c_P_symbol (R := R3) hM r p (by omega) (by omega) f36) cs_P_107 hthis rfl rfl (lr rfl) d_P_close_52 (lr rfl) ⟨lr rfl, lr rfl⟩ ?_
                      refine V.top (fun x6 ex6 => ?_)
                      have hx6 := sy_or ex6
                      have hx7 : -1 ≤ x6 ∧ x6 ≤ 11 := by
                        rcases hx6 with ⟨q1, q2⟩ | ⟨q1, q2⟩
                        · have := hg3.2.2.2.1 r p (by omega) (by omega) (by omega) q1; omega
                        · omega
                      refine x_goto (tgt := 59) d_P_close_55 rfl ?_
                      refine x_istore d_P_close_59 [some (.ref ((σ 30).1)), some (vi s), some (vi more), some (vi r), some (vi p), some (vi (R3 44 (((55 * s) + (5 * r)) + p))), some (vi x6)] rfl rfl (lr rfl) ?_
                      refine x_iload d_P_close_61 rfl ?_
                      refine x_bipush d_P_close_63 rfl ?_
                      refine x_icmp_lt (tgt := 102) d_P_close_65 rfl (by omega) (by omega) (fun c65 => ?_) (fun c65 => ?_)
                      · refine x_iinc d_P_close_102 rfl [some (.ref ((σ 30).1)), some (vi s), some (vi more), some (vi r), some (vi (p + 1)), some (vi (R3 44 (((55 * s) + (5 * r)) + p))), some (vi x6)] rfl rfl (lr rfl) ?_
                        refine x_goto (tgt := 19) d_P_close_105 rfl ?_
                        refine V.forget 5 [some (.ref ((σ 30).1)), some (vi s), some (vi more), some (vi r), some (vi (p + 1)), none, some (vi x6)] rfl ?_
                        refine V.forget 6 [some (.ref ((σ 30).1)), some (vi s), some (vi more), some (vi r), some (vi (p + 1)), none, none] rfl ?_
                        exact ihp _ (by omega) (p + 1) more R3 rfl (by omega) (by omega) (hpa.skip hcl (hx6.elim (fun q => mCa_let hg3 (by have := q.2; omega)) (fun q => mCa_end q.1)))
                      · have hx2 := hx6.resolve_right (by omega)
                        have hx3 := hg3.2.2.2.1 r p (by omega) (by omega) (by omega) hx2.1
                        have hb7 : s7 (bgs R3 (R3 44 (55 * s + 5 * r + p)) (4 * r + R3 36 r - (4 * r + (p + 1))).toNat (4 * r + (p + 1))) := by
                          have hok := hg3.ok hp3 (r := r) (by omega) (by omega)
                          exact bgs_s7 f7 _ _ (fun j d1 d2 => hok.2.2.1 j (by omega) (by omega)) (fun x d1 d2 => (hok.2.2.2 x d1 d2).2)
                        refine x_aload_n d_P_close_68 0 rfl rfl ?_
                        refine x_iload_n d_P_close_69 1 rfl rfl ?_
                        refine x_iload d_P_close_70 rfl ?_
                        refine x_bipush d_P_close_72 rfl ?_
                        refine x_isub d_P_close_74 ?_
                        refine x_aload_n d_P_close_75 0 rfl rfl ?_
                        refine x_iload_n d_P_close_76 3 rfl rfl ?_
                        refine x_iload d_P_close_77 rfl ?_
                        refine x_iconst d_P_close_79 ?_
                        refine x_iadd d_P_close_80 ?_
                        refine x_iload d_P_close_81 rfl ?_
                        refine x_cvi 30 (As := [vi r, vi (p + 1), vi (R3 44 (((55 * s) + (5 * r)) + p))]) (c_P_begins (R := R3) hM r (p + 1) (R3 44 (55 * s + 5 * r + p)) (hg3.ok hp3 (by omega) (by omega)) (by omega) f7) cs_P_99 hthis rfl rfl (lr rfl) d_P_close_83 (lr rfl) ⟨lr rfl, lr rfl⟩ ?_
                        refine x_cvm 30 (As := [vi s, vi (x6 - 6), vi (bgs R3 (R3 44 (55 * s + 5 * r + p)) (4 * r + R3 36 r - (4 * r + (p + 1))).toNat (4 * r + (p + 1)))]) (c_P_spread (R := R3) hM s (x6 - 6) _ hs (by omega) hb7 hpa.1.2.2.1 (by omega) (fun r2 a b => by rw [hp3.1 r2 a b]; exact zc_or _) (fun r2 a b => hg3.2.1 r2 a b)) cs_P_111 hthis rfl rfl (lr rfl) d_P_close_86 (lr rfl) ⟨lr rfl, lr rfl⟩ (fun z1 Q2 hQ2 => ?_)
                        have hz01 : z1 = 0 ∨ z1 = 1 := hQ2.2.2.2.imp (fun q => q.1) (fun q => q.1)
                        have hst := mCl.step hg hp hpa.1 hs (by omega) (by omega) (by omega) hx2.1 (by omega) (hx2.2 ▸ hQ2)
                        refine x_if_ne (tgt := 96) d_P_close_89 rfl (by omega) (fun c89 => ?_) (fun c89 => ?_)
                        · refine x_iconst d_P_close_96 ?_
                          refine x_goto (tgt := 101) d_P_close_97 rfl ?_
                          refine x_istore_n d_P_close_101 2 rfl [some (.ref ((σ 30).1)), some (vi s), some (vi 1), some (vi r), some (vi p), some (vi (R3 44 (((55 * s) + (5 * r)) + p))), some (vi x6)] rfl rfl (lr rfl) ?_
                          refine x_iinc d_P_close_102 rfl [some (.ref ((σ 30).1)), some (vi s), some (vi 1), some (vi r), some (vi (p + 1)), some (vi (R3 44 (((55 * s) + (5 * r)) + p))), some (vi x6)] rfl rfl (lr rfl) ?_
                          refine x_goto (tgt := 19) d_P_close_105 rfl ?_
                          refine V.forget 5 [some (.ref ((σ 30).1)), some (vi s), some (vi 1), some (vi r), some (vi (p + 1)), none, some (vi x6)] rfl ?_
                          refine V.forget 6 [some (.ref ((σ 30).1)), some (vi s), some (vi 1), some (vi r), some (vi (p + 1)), none, none] rfl ?_
                          exact ihp _ (by omega) (p + 1) 1 Q2 rfl (by omega) (by omega) (hpa.spr hcl hst (by first | exact Or.inl ⟨rfl, by omega, by omega⟩ | exact Or.inr ⟨rfl, Or.inl (by omega)⟩ | exact Or.inr ⟨rfl, Or.inr (by omega)⟩))
                        · refine x_iload_n d_P_close_92 2 rfl rfl ?_
                          refine x_if_eq (tgt := 100) d_P_close_93 rfl (by omega) (fun c93 => ?_) (fun c93 => ?_)
                          · refine x_iconst d_P_close_100 ?_
                            refine x_istore_n d_P_close_101 2 rfl [some (.ref ((σ 30).1)), some (vi s), some (vi 0), some (vi r), some (vi p), some (vi (R3 44 (((55 * s) + (5 * r)) + p))), some (vi x6)] rfl rfl (lr rfl) ?_
                            refine x_iinc d_P_close_102 rfl [some (.ref ((σ 30).1)), some (vi s), some (vi 0), some (vi r), some (vi (p + 1)), some (vi (R3 44 (((55 * s) + (5 * r)) + p))), some (vi x6)] rfl rfl (lr rfl) ?_
                            refine x_goto (tgt := 19) d_P_close_105 rfl ?_
                            refine V.forget 5 [some (.ref ((σ 30).1)), some (vi s), some (vi 0), some (vi r), some (vi (p + 1)), none, some (vi x6)] rfl ?_
                            refine V.forget 6 [some (.ref ((σ 30).1)), some (vi s), some (vi 0), some (vi r), some (vi (p + 1)), none, none] rfl ?_
                            exact ihp _ (by omega) (p + 1) 0 Q2 rfl (by omega) (by omega) (hpa.spr hcl hst (by first | exact Or.inl ⟨rfl, by omega, by omega⟩ | exact Or.inr ⟨rfl, Or.inl (by omega)⟩ | exact Or.inr ⟨rfl, Or.inr (by omega)⟩))
                          · refine x_iconst d_P_close_96 ?_
                            refine x_goto (tgt := 101) d_P_close_97 rfl ?_
                            refine x_istore_n d_P_close_101 2 rfl [some (.ref ((σ 30).1)), some (vi s), some (vi 1), some (vi r), some (vi p), some (vi (R3 44 (((55 * s) + (5 * r)) + p))), some (vi x6)] rfl rfl (lr rfl) ?_
                            refine x_iinc d_P_close_102 rfl [some (.ref ((σ 30).1)), some (vi s), some (vi 1), some (vi r), some (vi (p + 1)), some (vi (R3 44 (((55 * s) + (5 * r)) + p))), some (vi x6)] rfl rfl (lr rfl) ?_
                            refine x_goto (tgt := 19) d_P_close_105 rfl ?_
                            refine V.forget 5 [some (.ref ((σ 30).1)), some (vi s), some (vi 1), some (vi r), some (vi (p + 1)), none, some (vi x6)] rfl ?_
                            refine V.forget 6 [some (.ref ((σ 30).1)), some (vi s), some (vi 1), some (vi r), some (vi (p + 1)), none, none] rfl ?_
                            exact ihp _ (by omega) (p + 1) 1 Q2 rfl (by omega) (by omega) (hpa.spr hcl hst (by first | exact Or.inl ⟨rfl, by omega, by omega⟩ | exact Or.inr ⟨rfl, Or.inl (by omega)⟩ | exact Or.inr ⟨rfl, Or.inr (by omega)⟩))
              exact hlp _ 0 more2 R2 rfl (by omega) hmo2 hpa2
        exact hlr _ 0 0 R1 rfl (by omega) (by omega) (mPa.zero hcl)
  refine x_iconst d_P_close_0 ?_
  refine x_istore_n d_P_close_1 2 rfl [some (.ref ((σ 30).1)), some (vi s), some (vi 1), none, none, none, none] rfl rfl (lr rfl) ?_
  exact hlw _ 1 R rfl (by omega) (mCl.rf h7) (fun e0 => by omega)
