/-! the desk: parse, text -/
set_option maxHeartbeats 4000000 in
theorem c_D_parse {σ : xS} {R : xR} (hD : dSh σ) (x : Int) (h9 : x < 90 ∨ 99 < x) (hx : (σ x).2.1 = 0) (g : xGr) (e3 n3 : Int) (cap3 : Nat) (a : auT) (hc : R 1 12 = 0 ∨ R 1 12 = 1) (hco : R 1 12 = 1 → dCmp σ R g e3 n3 cap3 a) (hsz : 0 ≤ R 1 5 ∧ R 1 5 ≤ 16) (htx : ∀ k, 0 ≤ k → k < R 1 5 → 0 ≤ R 8 k ∧ R 8 k < 6) :
    CtT m_D_parse 7 1 6 [.ref (σ 1).1] σ R (fun o σ' R' => (R 1 12 = 0 ∧ Zx σ R x 9 o σ' R') ∨ (R 1 12 = 1 ∧ ∃ z, o = .returned (some (vi z)) ∧ σ' = σ ∧ (∀ b, b ≠ 16 → R' b = R b) ∧ pR (gP g) a (R 8) (R 1 5) z)) := by
  refine CtT.of [some (.ref (σ 1).1)] rfl (by decide +kernel) (lr rfl) (fun X => ?_)
  have hd1 := hD.1.at 0 (k := 1) (t := 17) (n := 0) rfl
  refine x_aload_n d_D_parse_0 0 rfl rfl ?_
  refine x_geti 1 12 12 (R 1 12) fl_D_146 tk_17_12 hd1 rfl rfl rfl d_D_parse_1 ?_
  refine x_callST (As := [vi (R 1 12)]) (c_D_state (R 1 12) x hc h9 hx) cs_D_139 rfl rfl (lr rfl) d_D_parse_4 (lr rfl) ⟨lr rfl, lr rfl⟩ (fun r σ1 R1 hq => ?_) (fun y σ1 R1 hq => ?_)
  · rcases hq with ⟨q1, q2, q3, q4⟩ | ⟨-, q, q2, -⟩
    · cases q2
      rw [q3, q4]
      obtain ⟨c1, -, -, u, υ, c2, c3⟩ := hco q1
      refine x_aload_n d_D_parse_7 0 rfl rfl ?_
      refine x_aload_n d_D_parse_8 0 rfl rfl ?_
      refine x_getc 1 4 8 8 fl_D_32 tk_17_4 hd1 rfl rfl d_D_parse_9 ?_
      refine x_aload_n d_D_parse_12 0 rfl rfl ?_
      refine x_geti 1 5 5 (R 1 5) fl_D_236 tk_17_5 hd1 rfl rfl rfl d_D_parse_13 ?_
      refine x_cvm 1 (As := [.ref (σ 8).1, vi (R 1 5)]) (c_D_wrong hD (gP g) a u υ n3 e3 cap3 c2 c1 c3 8 (R 1 5) 16 (hD.1.at 4 rfl) (by decide) (by omega) (by omega) htx) cs_D_238 (thisD hD) rfl rfl (lr rfl) d_D_parse_16 (lr rfl) ⟨lr rfl, lr rfl⟩ (fun z R2 hz => ?_)
      exact x_iret d_D_parse_19 rfl (lr rfl) (lr rfl) (Or.inr ⟨q1, z, rfl, rfl, hz.1, hz.2⟩)
    · cases q2
  · rcases hq with ⟨-, q2, -⟩ | ⟨q1, q, q2, q3⟩
    · cases q2
    · exact Vt.leave (by decide +kernel) (lr rfl) (lr rfl) (Or.inl ⟨by omega, q, q2, q3⟩)
set_option maxHeartbeats 4000000 in
set_option maxRecDepth 100000 in
theorem v_D_text {X : xCtx} {Z : xZ} {σ : xS} {R : xR} (hD : dSh σ) (x y : Int) (n : Nat) (hs : stI σ R x n) (hx : 1000 ≤ x) (hy : y < 90 ∨ 99 < y) (hyt : (σ y).2.1 = 0) (hch : ∀ i, 0 ≤ i → i < (n : Int) → 0 ≤ R (x + 1) i ∧ R (x + 1) i < 128)
    (fin1 : tGood n (R (x + 1)) → ∀ R1 : xR, (∀ a, a ≠ 1 → a ≠ 8 → R1 a = R a) → (∀ j, j ≠ 5 → j ≠ 21 → j ≠ 22 → R1 1 j = R 1 j) → R1 1 5 = n → R1 1 21 = 0 → R1 1 22 = 0 → (∀ i, 0 ≤ i → i < (n : Int) → R1 8 i = R (x + 1) i - 97) → Z (.returned (some (vi n))) σ R1)
    (fin0 : ¬ tGood n (R (x + 1)) → ∀ q : Nat, Z (.threw q) (xsu σ y (q, 8, 0)) (xru R y (fun _ => 0))) : V X m_D_text (8, 3, 26, Z) σ R 2 20 5 [some (.ref (σ 1).1), some (.ref (σ x).1), none, none] [] := by
  have hd1 := hD.1.at 0 (k := 1) (t := 17) (n := 0) rfl
  have hn := hs.2.2.2
  -- the second half
  have l2 : tGood n (R (x + 1)) → ∀ (mw : Nat) (k : Int) (R1 : xR), ((n : Int) - k).toNat = mw → 0 ≤ k → k ≤ n → (∀ a, a ≠ 1 → a ≠ 8 → R1 a = R a) → (∀ j, j ≠ 5 → R1 1 j = R 1 j) → R1 1 5 = n → (∀ i, 0 ≤ i → i < k → R1 8 i = R (x + 1) i - 97) → V X m_D_text (8, 3, 26, Z) σ R1 3 26 63 [some (.ref (σ 1).1), some (.ref (σ x).1), some (vi 1), some (vi k)] [] := by
    intro hg mw
    induction mw using Nat.strongRecOn with
    | _ mw ih =>
      intro k R1 hm k0 k1 a1 a2 a3 a4
      have hs1 : stI σ R1 x n := ⟨hs.1, hs.2.1, by rw [a1 x (by omega) (by omega)]; exact hs.2.2.1, hn⟩
      refine x_iload_n d_D_text_63 3 rfl rfl ?_
      refine x_aload_n d_D_text_64 0 rfl rfl ?_
      refine x_geti 1 5 5 n fl_D_236 tk_17_5 hd1 rfl rfl a3 d_D_text_65 ?_
      refine x_icmp_ge (tgt := 91) d_D_text_68 rfl (by omega) (by omega) (fun c => ?_) (fun c => ?_)
      · refine x_aload_n d_D_text_91 0 rfl rfl ?_
        refine x_cvv 1 (As := []) (c_D_forget hD) cs_D_150 (thisD hD) rfl rfl (lr rfl) d_D_text_92 (lr rfl) ⟨lr rfl, lr rfl⟩ (fun R2 hR2 => ?_)
        refine x_aload_n d_D_text_95 0 rfl rfl ?_
        refine x_geti 1 5 5 n fl_D_236 tk_17_5 hd1 rfl rfl (by rw [hR2, xr_d rfl (by decide), xr_d rfl (by decide)]; exact a3) d_D_text_96 ?_
        refine x_iret d_D_text_99 rfl (lr rfl) (lr rfl) (fin1 hg R2 (fun a b1 b2 => ?_) (fun j b1 b2 b3 => ?_) (by rw [hR2, xr_d rfl (by decide), xr_d rfl (by decide)]; exact a3) (by rw [hR2, xr_d rfl (by decide), xr_s rfl]) (by rw [hR2, xr_s rfl]) (fun i i0 i1 => ?_))
        · rw [← a1 a b1 b2]; funext i; rw [hR2, xr_o rfl b1, xr_o rfl b1]
        · rw [hR2, xr_d rfl b3, xr_d rfl b2]; exact a2 j b1
        · rw [hR2, xr_o rfl (by decide), xr_o rfl (by decide)]; exact a4 i i0 (by omega)
      · have hc9 := hch k k0 (by omega)
        have ex : R1 (x + 1) = R (x + 1) := a1 _ (by omega) (by omega)
        have hg9 := hg.2 k k0 (by omega)
        have hn8 := hg.1
        refine x_aload_n d_D_text_71 0 rfl rfl ?_
        refine x_getc 1 4 8 8 fl_D_32 tk_17_4 hd1 rfl rfl d_D_text_72 ?_
        refine x_iload_n d_D_text_75 3 rfl rfl ?_
        refine x_aload_n d_D_text_76 1 rfl rfl ?_
        refine x_iload_n d_D_text_77 3 rfl rfl ?_
        refine x_cvi x (As := [vi k]) (c_Str_charAt x k n hs1 (by omega) (by rw [ex]; exact hc9)) cs_D_108 hs1.rc rfl rfl (lr rfl) d_D_text_78 (lr rfl) ⟨lr rfl, lr rfl⟩ ?_
        refine x_bipush d_D_text_81 rfl ?_
        refine x_isub d_D_text_83 ?_
        refine x_iast 8 (hD.1.at 4 rfl) rfl ⟨by decide, rfl, by decide⟩ rfl (by omega) d_D_text_84 (fun R2 hR2 => ?_)
        refine x_iinc d_D_text_85 rfl [some (.ref (σ 1).1), some (.ref (σ x).1), some (vi 1), some (vi (k + 1))] rfl rfl (lr rfl) ?_
        refine x_goto (tgt := 63) d_D_text_88 rfl ?_
        refine ih _ (by omega) (k + 1) R2 rfl (by omega) (by omega) (fun a b1 b2 => by rw [← a1 a b1 b2]; funext i; exact xr_o hR2 b2) (fun j b1 => by rw [xr_o hR2 (by decide)]; exact a2 j b1) (by rw [xr_o hR2 (by decide)]; exact a3) (fun i i0 i1 => ?_)
        by_cases e : i = k
        · rw [e, xr_s hR2, ex]
        · rw [xr_d hR2 e]; exact a4 i i0 (by omega)
  -- the first loop
  have l1 : ∀ (mw : Nat) (k ok : Int), ((n : Int) - k).toNat = mw → 0 ≤ k → k ≤ n → ok = zc ((n : Int) ≤ 8 ∧ ∀ i, 0 ≤ i → i < k → 97 ≤ R (x + 1) i ∧ R (x + 1) i ≤ 102) → V X m_D_text (8, 3, 26, Z) σ R 2 20 22 [some (.ref (σ 1).1), some (.ref (σ x).1), some (vi ok), some (vi k)] [] := by
    intro mw
    induction mw using Nat.strongRecOn with
    | _ mw ih =>
      intro k ok hm k0 k1 hok
      have hz9 := zc_or ((n : Int) ≤ 8 ∧ ∀ i, 0 ≤ i → i < k → 97 ≤ R (x + 1) i ∧ R (x + 1) i ≤ 102)
      rw [← hok] at hz9
      have hend : (ok = 0 ∨ k = n) → V X m_D_text (8, 3, 26, Z) σ R 2 20 49 [some (.ref (σ 1).1), some (.ref (σ x).1), some (vi ok), some (vi k)] [] := by
        intro hq
        have hiff : ok = 1 ↔ tGood n (R (x + 1)) := by
          constructor
          · intro h1
            have q := zc_eq1.mp (hok.symm.trans h1)
            exact ⟨q.1, fun i i0 i1 => q.2 i i0 (by omega)⟩
          · intro h1
            rw [hok]
            exact zc_t ⟨h1.1, fun i i0 i1 => h1.2 i i0 (by omega)⟩
        refine x_iload_n d_D_text_49 2 rfl rfl ?_
        refine x_callST (As := [vi ok]) (c_D_need ok y hz9 hy hyt) cs_D_116 rfl rfl (lr rfl) d_D_text_50 (lr rfl) ⟨lr rfl, lr rfl⟩ (fun r σ1 R1 hq2 => ?_) (fun w σ1 R1 hq2 => ?_)
        · rcases hq2 with ⟨q1, q2, q3, q4⟩ | ⟨-, q, q2, -⟩
          · cases q2
            rw [q3, q4, q1]
            have hg := hiff.mp q1
            refine x_aload_n d_D_text_53 0 rfl rfl ?_
            refine x_aload_n d_D_text_54 1 rfl rfl ?_
            refine x_cvi x (As := []) (c_Str_length x n hs) cs_D_105 hs.rc rfl rfl (lr rfl) d_D_text_55 (lr rfl) ⟨lr rfl, lr rfl⟩ ?_
            refine x_puti 1 5 5 fp_D_236 tk_17_5 hd1 rfl rfl d_D_text_58 (fun R2 hR2 => ?_)
            refine x_iconst d_D_text_61 ?_
            refine x_istore_n d_D_text_62 3 rfl [some (.ref (σ 1).1), some (.ref (σ x).1), some (vi 1), some (vi 0)] rfl rfl (lr rfl) ?_
            exact l2 hg _ 0 R2 rfl (Int.le_refl _) (by omega) (fun a b1 b2 => by funext i; exact xr_o hR2 b1) (fun j b1 => xr_d hR2 b1) (xr_s hR2) (fun i i0 i1 => by omega)
          · cases q2
        · rcases hq2 with ⟨-, q2, -⟩ | ⟨q1, q, q2, q3, q4⟩
          · cases q2
          · cases q2
            rw [q3, q4]
            exact Vt.leave (by decide +kernel) (lr rfl) (lr rfl) (fin0 (fun h => q1 (hiff.mpr h)) w)
      refine x_iload_n d_D_text_22 3 rfl rfl ?_
      refine x_aload_n d_D_text_23 1 rfl rfl ?_
      refine x_cvi x (As := []) (c_Str_length x n hs) cs_D_105 hs.rc rfl rfl (lr rfl) d_D_text_24 (lr rfl) ⟨lr rfl, lr rfl⟩ ?_
      refine x_icmp_ge (tgt := 49) d_D_text_27 rfl (by omega) (by omega) (fun c => hend (Or.inr (by omega))) (fun c => ?_)
      refine x_iload_n d_D_text_30 2 rfl rfl ?_
      refine x_if_eq (tgt := 49) d_D_text_31 rfl (by omega) (fun c2 => hend (Or.inl c2)) (fun c2 => ?_)
      have hc9 := hch k k0 (by omega)
      refine x_aload_n d_D_text_34 1 rfl rfl ?_
      refine x_iload_n d_D_text_35 3 rfl rfl ?_
      refine x_cvi x (As := [vi k]) (c_Str_charAt x k n hs (by omega) hc9) cs_D_108 hs.rc rfl rfl (lr rfl) d_D_text_36 (lr rfl) ⟨lr rfl, lr rfl⟩ ?_
      refine x_csi (As := [vi (R (x + 1) k)]) (c_D_isLetter (R (x + 1) k) (by omega)) cs_D_120 rfl rfl (lr rfl) d_D_text_39 (lr rfl) ⟨lr rfl, lr rfl⟩ ?_
      refine x_istore_n d_D_text_42 2 rfl [some (.ref (σ 1).1), some (.ref (σ x).1), some (vi (zb (97 ≤ R (x + 1) k ∧ R (x + 1) k ≤ 102))), some (vi k)] rfl rfl (lr rfl) ?_
      refine x_iinc d_D_text_43 rfl [some (.ref (σ 1).1), some (.ref (σ x).1), some (vi (zb (97 ≤ R (x + 1) k ∧ R (x + 1) k ≤ 102))), some (vi (k + 1))] rfl rfl (lr rfl) ?_
      refine x_goto (tgt := 22) d_D_text_46 rfl ?_
      refine ih _ (by omega) (k + 1) _ rfl (by omega) (by omega) ?_
      have q := zc_eq1.mp (hok.symm.trans (by omega : ok = 1))
      rcases zb_cs (97 ≤ R (x + 1) k ∧ R (x + 1) k ≤ 102) with c1 | c1
      · rw [c1.2]; exact (zc_t ⟨q.1, fun i a b => by by_cases e : i = k; (rw [e]; exact c1.1); exact q.2 i a (by omega)⟩).symm
      · rw [c1.2]; exact (zc_f (fun z => c1.1 (z.2 k (by omega) (by omega)))).symm
  refine x_aload_n d_D_text_5 1 rfl rfl ?_
  refine x_cvi x (As := []) (c_Str_length x n hs) cs_D_105 hs.rc rfl rfl (lr rfl) d_D_text_6 (lr rfl) ⟨lr rfl, lr rfl⟩ ?_
  refine x_bipush d_D_text_9 rfl ?_
  refine x_icmp_gt (tgt := 18) d_D_text_11 rfl (by omega) (by omega) (fun c => ?_) (fun c => ?_)
  · refine x_iconst d_D_text_18 ?_
    refine x_istore_n d_D_text_19 2 rfl [some (.ref (σ 1).1), some (.ref (σ x).1), some (vi 0), none] rfl rfl (lr rfl) ?_
    refine x_iconst d_D_text_20 ?_
    refine x_istore_n d_D_text_21 3 rfl [some (.ref (σ 1).1), some (.ref (σ x).1), some (vi 0), some (vi 0)] rfl rfl (lr rfl) ?_
    exact l1 _ 0 0 rfl (Int.le_refl _) (by omega) (zc_f (fun q => by have := q.1; omega)).symm
  · refine x_iconst d_D_text_14 ?_
    refine x_goto (tgt := 19) d_D_text_15 rfl ?_
    refine x_istore_n d_D_text_19 2 rfl [some (.ref (σ 1).1), some (.ref (σ x).1), some (vi 1), none] rfl rfl (lr rfl) ?_
    refine x_iconst d_D_text_20 ?_
    refine x_istore_n d_D_text_21 3 rfl [some (.ref (σ 1).1), some (.ref (σ x).1), some (vi 1), some (vi 0)] rfl rfl (lr rfl) ?_
    exact l1 _ 0 1 rfl (Int.le_refl _) (by omega) (zc_t ⟨by omega, fun i a b => by omega⟩).symm
/-- old regions keep their shape -/
def ol (f : Int) (σ σ' : xS) : Prop := ∀ a, a < f → σ' a = σ a
theorem ol.sx {f : Int} {σ σ' : xS} (h : ol f σ σ') (hf : fr f σ) : sx σ σ' := fun a ha => h a (by
  rcases ha with ha | ha
  · exact hf.lt ha
  · have := hf.1; omega)
def txZ (σ : xS) (R : xR) (n f : Int) : xZ := fun o σ' R' => ol f σ σ' ∧ fr (f + 3) σ' ∧ (∀ a, a < f → a ≠ 1 → a ≠ 8 → a ≠ 10 → R' a = R a) ∧ R' 10 1 = 0 ∧ R' 10 3 = 0 ∧ ((tGood n (R 11) ∧ o = .returned (some (vi n)) ∧ (∀ j, j ≠ 5 → j ≠ 21 → j ≠ 22 → R' 1 j = R 1 j) ∧ R' 1 5 = n ∧ R' 1 21 = 0 ∧ R' 1 22 = 0 ∧ (∀ i, 0 ≤ i → i < n → R' 8 i = R 11 i - 97)) ∨ (¬ tGood n (R 11) ∧ thr o σ' 8 ∧ R' 1 = R 1 ∧ R' 8 = R 8))
theorem tGood_cg {n : Int} {b c : Int → Int} (h : ∀ i, 0 ≤ i → i < n → b i = c i) : tGood n b ↔ tGood n c := ⟨fun q => ⟨q.1, fun i i0 i1 => by rw [← h i i0 i1]; exact q.2 i i0 i1⟩, fun q => ⟨q.1, fun i i0 i1 => by rw [h i i0 i1]; exact q.2 i i0 i1⟩⟩
set_option maxHeartbeats 4000000 in
theorem c_D_text {σ : xS} {R : xR} (hD : dSh σ) (f : Int) (hf : fr f σ) (n : Nat) (h : sbI σ R 10 n) (hel : ∀ i, 0 ≤ i → i < (n : Int) → 0 ≤ R 11 i ∧ R 11 i < 128) : CtT m_D_text 8 3 26 [.ref (σ 1).1] σ R (txZ σ R n f) := by
  refine CtT.of [some (.ref (σ 1).1), none, none, none] rfl (by decide +kernel) (lr rfl) (fun X => ?_)
  obtain ⟨Z, hZ⟩ : ∃ Z : xZ, Z = txZ σ R n f := ⟨_, rfl⟩
  rw [← hZ]
  have hf9 := hf.1
  refine x_aload_n d_D_text_0 0 rfl rfl ?_
  refine x_cv 1 (As := []) (c_D_taken hD f n (hf.2 f (Int.le_refl _)) (by omega) (by omega) (hf.2 (f + 1) (by omega)) h hel) cs_D_102 (thisD hD) rfl rfl (lr rfl) d_D_text_1 (lr rfl) ⟨lr rfl, lr rfl⟩ (fun r σ1 R1 hq => ?_)
  obtain ⟨y1, ⟨q, a, y2⟩, y3, y4, y5, y6, y7⟩ := hq
  cases y1
  have s1 : ∀ b, b ≠ f → b ≠ f + 1 → σ1 b = σ b := fun b b1 b2 => by rw [y2, xsu_ne _ _ b1, xsu_ne _ _ b2]
  have hol : ol f σ σ1 := fun b hb => s1 b (by omega) (by omega)
  have hD1 := hD.ext (hol.sx hf)
  have hn10 := h.2.2.2.2
  have hs1 : stI σ1 R1 f n := ⟨by rw [y2, xsu_self], by rw [y2, xsu_ne _ _ (by omega), xsu_self], y3, by omega⟩
  have hcg := tGood_cg (n := n) (b := R1 (f + 1)) (c := R 11) y4
  have hfr1 : fr (f + 2) σ1 := ⟨by omega, fun b hb => by rw [s1 b (by omega) (by omega)]; exact hf.2 b (by omega)⟩
  refine x_astore_n d_D_text_4 1 rfl [some (.ref (σ 1).1), some (.ref (σ1 f).1), none, none] rfl rfl (lr rfl) ?_
  rw [← s1 1 (by omega) (by omega)]
  refine v_D_text hD1 f (f + 2) n hs1 (by omega) (by omega) (hfr1.2 _ (Int.le_refl _)) (fun i i0 i1 => by rw [y4 i i0 i1]; exact hel i i0 i1) (fun hg R2 a1 a2 a3 a4 a5 a6 => ?_) (fun hg q => ?_)
  · rw [hZ]
    exact ⟨hol, hfr1.mono (by omega), fun b b1 b2 b3 b4 => by rw [a1 b b2 b3, y7 b (by omega) (by omega) b4], by rw [a1 10 (by decide) (by decide)]; exact y5, by rw [a1 10 (by decide) (by decide)]; exact y6, Or.inl ⟨hcg.mp hg, rfl, fun j j1 j2 j3 => by rw [a2 j j1 j2 j3, y7 1 (by omega) (by omega) (by decide)], a3, a4, a5, fun i i0 i1 => by rw [a6 i i0 i1, y4 i i0 i1]⟩⟩
  · rw [hZ]
    have k1 : ∀ b, b < f → xru R1 (f + 2) (fun _ => 0) b = R1 b := fun b hb => xru_ne _ _ (by omega)
    exact ⟨fun b hb => by rw [xsu_ne _ _ (by omega)]; exact hol b hb, hfr1.new (by omega) (by omega), fun b b1 b2 b3 b4 => by rw [k1 b b1, y7 b (by omega) (by omega) b4], by rw [k1 10 (by omega)]; exact y5, by rw [k1 10 (by omega)]; exact y6, Or.inr ⟨fun w => hg (hcg.mpr w), ⟨q, f + 2, rfl, by rw [xsu_self], by rw [xsu_self]⟩, by rw [k1 1 (by omega), y7 1 (by omega) (by omega) (by decide)], by rw [k1 8 (by omega), y7 8 (by omega) (by omega) (by decide)]⟩⟩
