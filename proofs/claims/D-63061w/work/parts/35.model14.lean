/-! the model: count (walk printed by gen/model14.py) -/
theorem sumF_nx {f : Int → Int} {k : Int} (h : 0 ≤ k) : sumF f (k + 1).toNat = sumF f k.toNat + f k := by
  rw [show (k + 1).toNat = k.toNat + 1 by omega]
  show sumF f k.toNat + f ((k.toNat : Nat) : Int) = _
  rw [show ((k.toNat : Nat) : Int) = k by omega]
noncomputable def mCt (R : xR) (k : Int) : Int := sumF (fun t => zc (hb (R 44 k) t)) 7
theorem sumF_rng {f : Int → Int} {c : Int} (h : ∀ i, 0 ≤ f i ∧ f i ≤ c) : ∀ n : Nat, 0 ≤ sumF f n ∧ sumF f n ≤ c * n := by
  intro n
  induction n with
  | zero => exact ⟨Int.le_refl _, by show (0 : Int) ≤ c * 0; rw [Int.mul_zero]; exact Int.le_refl _⟩
  | succ n ih =>
    have := h n
    show 0 ≤ sumF f n + f n ∧ sumF f n + f n ≤ c * ((n : Int) + 1)
    rw [Int.mul_add, Int.mul_one]
    omega
theorem mCt_rng (R : xR) (k : Int) : 0 ≤ mCt R k ∧ mCt R k ≤ 7 := by
  have := sumF_rng (f := fun t => zc (hb (R 44 k) t)) (c := 1) (fun i => by have := zc_or (hb (R 44 k) i); omega) 7
  unfold mCt
  omega
set_option maxHeartbeats 4000000 in
set_option maxRecDepth 100000 in
theorem c_P_count {σ : xS} {R : xR} (hM : xsh σ mshape) (h7 : ∀ i, 0 ≤ i → i < 2310 → s7 (R 44 i)) (h12 : 0 ≤ R 30 12 ∧ R 30 12 ≤ 40) (what : Int) (hk : -2147483648 ≤ what ∧ what < 2147483648) : Ct m_P_count 1 0 0 [.ref (σ 30).1, vi what] σ R (Zm σ (fun z R1 => R1 = xup R 30 0 0 ∧ z = if what = 0 then R 30 3 else if what = 1 then R 30 12 else if what = 2 then sumF (mCt R) (55 * R 30 12).toNat else -1)) := by
  refine Ct.of [some (.ref ((σ 30).1)), some (vi what), none, none, none] rfl (by decide +kernel) (lr rfl) (fun X => ?_)
  refine x_aload_n d_P_count_0 0 rfl rfl ?_
  refine x_iconst d_P_count_1 ?_
  refine x_puti 30 0 0 fp_P_66 tk_23_0 (hM.at 0 rfl) rfl rfl d_P_count_2 (fun Q1 hQ1 => ?_)
  refine x_iload_n d_P_count_5 1 rfl rfl ?_
  refine x_if_ne (tgt := 14) d_P_count_6 rfl (by omega) (fun c6 => ?_) (fun c6 => ?_)
  · refine x_iload_n d_P_count_14 1 rfl rfl ?_
    refine x_iconst d_P_count_15 ?_
    refine x_icmp_ne (tgt := 24) d_P_count_16 rfl (by omega) (by omega) (fun c16 => ?_) (fun c16 => ?_)
    · refine x_iload_n d_P_count_24 1 rfl rfl ?_
      refine x_iconst d_P_count_25 ?_
      refine x_icmp_eq (tgt := 31) d_P_count_26 rfl (by omega) (by omega) (fun c26 => ?_) (fun c26 => ?_)
      · refine x_iconst d_P_count_31 ?_
        refine x_istore_n d_P_count_32 2 rfl [some (.ref ((σ 30).1)), some (vi what), some (vi 0), none, none] rfl rfl (lr rfl) ?_
        refine x_iconst d_P_count_33 ?_
        refine x_istore_n d_P_count_34 3 rfl [some (.ref ((σ 30).1)), some (vi what), some (vi 0), some (vi 0), none] rfl rfl (lr rfl) ?_
        have h0 := hQ1
        generalize Q1 = Q0 at h0 ⊢
        have hl : ∀ (m : Nat) (k : Int) (n : Int), (55 * R 30 12 - k).toNat = m → (0 ≤ k ∧ k ≤ 55 * R 30 12) → (n = sumF (mCt R) k.toNat) → V X m_P_count (1, 0, 0, Zm σ (fun z R1 => R1 = xup R 30 0 0 ∧ z = if what = 0 then R 30 3 else if what = 1 then R 30 12 else if what = 2 then sumF (mCt R) (55 * R 30 12).toNat else -1)) σ Q0 0 0 35 [some (.ref ((σ 30).1)), some (vi what), some (vi n), some (vi k), none] [] := by
          intro m
          induction m using Nat.strongRecOn with
          | _ m ih =>
            intro k n hm hk1 hn1
            refine x_iload_n d_P_count_35 3 rfl rfl ?_
            refine x_bipush d_P_count_36 rfl ?_
            refine x_aload_n d_P_count_38 0 rfl rfl ?_
            refine x_geti 30 12 12 (R 30 12) fl_P_93 tk_23_12 (hM.at 0 rfl) rfl rfl (xr_d h0 (by decide)) d_P_count_39 ?_
            refine x_imul d_P_count_42 ?_
            refine x_icmp_ge (tgt := 82) d_P_count_43 rfl (by omega) (by omega) (fun c43 => ?_) (fun c43 => ?_)
            · refine x_iload_n d_P_count_82 2 rfl rfl ?_
              exact x_iret d_P_count_83 rfl (lr rfl) (lr rfl) (⟨_, rfl, rfl, h0, by rw [if_neg (by omega), if_neg (by omega), if_pos (by omega), hn1, show k = 55 * R 30 12 by omega]⟩)
            · refine x_iconst d_P_count_46 ?_
              refine x_istore d_P_count_47 [some (.ref ((σ 30).1)), some (vi what), some (vi n), some (vi k), some (vi 0)] rfl rfl (lr rfl) ?_
              have hlt : ∀ (m : Nat) (t : Int) (n : Int), (7 - t).toNat = m → (0 ≤ t ∧ t ≤ 7) → (n = sumF (mCt R) k.toNat + sumF (fun t => zc (hb (R 44 k) t)) t.toNat) → V X m_P_count (1, 0, 0, Zm σ (fun z R1 => R1 = xup R 30 0 0 ∧ z = if what = 0 then R 30 3 else if what = 1 then R 30 12 else if what = 2 then sumF (mCt R) (55 * R 30 12).toNat else -1)) σ Q0 0 0 49 [some (.ref ((σ 30).1)), some (vi what), some (vi n), some (vi k), some (vi t)] [] := by
                intro m
                induction m using Nat.strongRecOn with
                | _ m iht =>
                  intro t n hmt ht1 hn2
                  refine x_iload d_P_count_49 rfl ?_
                  refine x_bipush d_P_count_51 rfl ?_
                  refine x_icmp_ge (tgt := 76) d_P_count_53 rfl (by omega) (by omega) (fun c53 => ?_) (fun c53 => ?_)
                  · refine x_iinc d_P_count_76 rfl [some (.ref ((σ 30).1)), some (vi what), some (vi n), some (vi (k + 1)), some (vi t)] rfl rfl (lr rfl) ?_
                    refine x_goto (tgt := 35) d_P_count_79 rfl ?_
                    refine V.forget 4 [some (.ref ((σ 30).1)), some (vi what), some (vi n), some (vi (k + 1)), none] rfl ?_
                    have ht7 : t = 7 := by omega
                    exact ih _ (by omega) (k + 1) n rfl (by omega) (by rw [sumF_nx (by omega), hn2, ht7]; rfl)
                  · have g7 := h7 k (by omega) (by omega)
                    have hz9 := zc_or (hb (R 44 k) t)
                    have hb9 := sumF_rng (f := mCt R) (c := 7) (mCt_rng R) k.toNat
                    have hb8 := sumF_rng (f := (fun t => zc (hb (R 44 k) t))) (c := 1) (fun i => by have := zc_or (hb (R 44 k) i); omega) t.toNat
                    refine x_iload_n d_P_count_56 2 rfl rfl ?_
                    refine x_aload_n d_P_count_57 0 rfl rfl ?_
                    refine x_getc 30 13 44 44 fl_P_36 tk_23_13 (hM.at 0 rfl) rfl rfl d_P_count_58 ?_
                    refine x_iload_n d_P_count_61 3 rfl rfl ?_
                    refine x_iald 44 (R 44 k) (hM.at 9 rfl) rfl ⟨by decide, rfl, by decide⟩ rfl (by omega) (xr_o h0 (by decide)) d_P_count_62 ?_
                    refine x_iload d_P_count_63 rfl ?_
                    refine x_ishr d_P_count_65 (ishr (R 44 k) t) (iI_ishr g7 (by omega)) ?_
                    refine x_iconst d_P_count_66 ?_
                    refine x_iand d_P_count_67 (zc (hb (R 44 k) t)) (iI_bit g7 (by omega)) ?_
                    refine x_iadd d_P_count_68 ?_
                    refine x_istore_n d_P_count_69 2 rfl [some (.ref ((σ 30).1)), some (vi what), some (vi (n + (zc (hb (R 44 k) t)))), some (vi k), some (vi t)] rfl rfl (lr rfl) ?_
                    refine x_iinc d_P_count_70 rfl [some (.ref ((σ 30).1)), some (vi what), some (vi (n + (zc (hb (R 44 k) t)))), some (vi k), some (vi (t + 1))] rfl rfl (lr rfl) ?_
                    refine x_goto (tgt := 49) d_P_count_73 rfl ?_
                    exact iht _ (by omega) (t + 1) (n + (zc (hb (R 44 k) t))) rfl (by omega) (by rw [sumF_nx (by omega)]; show n + (zc (hb (R 44 k) t)) = sumF (mCt R) k.toNat + (sumF (fun t => zc (hb (R 44 k) t)) t.toNat + zc (hb (R 44 k) t)); omega)
              exact hlt _ 0 n rfl (by omega) (by rw [hn1]; show _ = _ + 0; omega)
        exact hl _ 0 0 rfl (by omega) rfl
      · refine x_iconst d_P_count_29 ?_
        exact x_iret d_P_count_30 rfl (lr rfl) (lr rfl) (⟨_, rfl, rfl, hQ1, by rw [if_neg (by omega), if_neg (by omega), if_neg (by omega)]⟩)
    · refine x_aload_n d_P_count_19 0 rfl rfl ?_
      refine x_geti 30 12 12 (R 30 12) fl_P_93 tk_23_12 (hM.at 0 rfl) rfl rfl (xr_d hQ1 (by decide)) d_P_count_20 ?_
      exact x_iret d_P_count_23 rfl (lr rfl) (lr rfl) (⟨_, rfl, rfl, hQ1, by rw [if_neg (by omega), if_pos (by omega)]⟩)
  · refine x_aload_n d_P_count_9 0 rfl rfl ?_
    refine x_geti 30 3 3 (R 30 3) fl_P_90 tk_23_3 (hM.at 0 rfl) rfl rfl (xr_d hQ1 (by decide)) d_P_count_10 ?_
    exact x_iret d_P_count_13 rfl (lr rfl) (lr rfl) (⟨_, rfl, rfl, hQ1, by rw [if_pos (by omega)]⟩)
