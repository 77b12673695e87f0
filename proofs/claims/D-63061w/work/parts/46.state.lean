/-! State (walks printed by gen/state.py): the object at region k, its long array at k + 1 -/
theorem thisS {σ : xS} {k : Int} (hk : (σ k).2 = (19, 0)) : xRc σ k (σ k).1 "RepairDesk$State" := ⟨rfl, 19, 0, 2, F_State, 1, hk, by decide, rfl⟩
theorem sH_set {R R1 : xR} {k w z : Int} (h : R1 = xup R k w z) {i : Int} : sH R1 k i ↔ if i / 64 = w then lb z (i % 64) else sH R k i := by
  unfold sH
  by_cases e : i / 64 = w
  · rw [if_pos e, xr_e h e]
  · rw [if_neg e, xr_d h e]
theorem sH_word {R R1 : xR} {k j w : Int} (hw : 0 ≤ w ∧ w < 7) : lI (R k w) = lI (R1 j w) ↔ ∀ i, 64 * w ≤ i → i < 64 * w + 64 → (sH R k i ↔ sH R1 j i) := by
  constructor
  · intro h i i1 i2
    unfold sH lb
    rw [show i / 64 = w by omega, h]
  · intro h
    refine lb_ext (fun b b1 b2 => ?_)
    have := h (64 * w + b) (by omega) (by omega)
    unfold sH at this
    rw [show (64 * w + b) / 64 = w by omega, show (64 * w + b) % 64 = b by omega] at this
    exact this
set_option maxHeartbeats 4000000 in
set_option maxRecDepth 100000 in
theorem c_S_item {σ : xS} {R : xR} (r p t : Int) : Ct m_S_item 1 0 0 [vi r, vi p, vi t] σ R (Zi σ R ((r * 5 + p) * 7 + t)) := by
  refine Ct.of [some (vi r), some (vi p), some (vi t)] rfl (by decide +kernel) (lr rfl) (fun X => ?_)
  refine x_iload_n d_S_item_0 0 rfl rfl ?_
  refine x_iconst d_S_item_1 ?_
  refine x_imul d_S_item_2 ?_
  refine x_iload_n d_S_item_3 1 rfl rfl ?_
  refine x_iadd d_S_item_4 ?_
  refine x_bipush d_S_item_5 rfl ?_
  refine x_imul d_S_item_7 ?_
  refine x_iload_n d_S_item_8 2 rfl rfl ?_
  refine x_iadd d_S_item_9 ?_
  exact x_iret d_S_item_10 rfl (lr rfl) (lr rfl) (⟨rfl, rfl, rfl⟩)
set_option maxHeartbeats 4000000 in
set_option maxRecDepth 100000 in
theorem c_S_has {σ : xS} {R : xR} (k : Int) (hk : (σ k).2 = (19, 0)) (hk1 : (σ (k + 1)).2 = (37, 7)) (i : Int) (hi : 0 ≤ i ∧ i < 448) : Ct m_S_has 1 0 0 [.ref (σ k).1, vi i] σ R (Zi σ R (zc (sH R (k + 1) i))) := by
  refine Ct.of [some (.ref ((σ k).1)), some (vi i)] rfl (by decide +kernel) (lr rfl) (fun X => ?_)
  have hz9 := zc_or (lb (R (k + 1) (i / 64)) (i % 64))
  refine x_aload_n d_S_has_0 0 rfl rfl ?_
  refine x_get3 k 0 (k + 1) fl_S_9 tk_19_0 hk rfl rfl d_S_has_1 ?_
  refine x_iload_n d_S_has_4 1 rfl rfl ?_
  refine x_bipush d_S_has_5 rfl ?_
  refine x_ishr d_S_has_7 (i / 64) (item_shr hi) ?_
  refine x_lald (k + 1) (R (k + 1) (i / 64)) hk1 rfl ⟨by decide, rfl, by decide⟩ rfl (by omega) rfl d_S_has_8 ?_
  refine x_iload_n d_S_has_9 1 rfl rfl ?_
  refine x_bipush d_S_has_10 rfl ?_
  refine x_iand d_S_has_12 (i % 64) (item_and hi) ?_
  refine x_lshr d_S_has_13 ((lI (R (k + 1) (i / 64)) >>> ((iI (i % 64)).toInt64 &&& 63)).toInt) (lI_toInt _) ?_
  refine x_lconst d_S_has_14 rfl ?_
  refine x_land d_S_has_15 (zc (lb (R (k + 1) (i / 64)) (i % 64))) (lb_shr (by omega)) ?_
  refine x_lconst d_S_has_16 rfl ?_
  refine x_lcmp d_S_has_17 (zc (lb (R (k + 1) (i / 64)) (i % 64)) - 1) (lcmp1) ?_
  refine x_if_ne (tgt := 25) d_S_has_18 rfl (by have := zc_or (lb (R (k + 1) (i / 64)) (i % 64)); omega) (fun c18 => ?_) (fun c18 => ?_)
  · refine x_iconst d_S_has_25 ?_
    exact x_zret d_S_has_26 rfl (narz (by omega)) (lr rfl) (lr rfl) (⟨by rw [show zc (sH R (k + 1) i) = 0 by unfold sH; omega], rfl, rfl⟩)
  · refine x_iconst d_S_has_21 ?_
    refine x_goto (tgt := 26) d_S_has_22 rfl ?_
    exact x_zret d_S_has_26 rfl (narz (by omega)) (lr rfl) (lr rfl) (⟨by rw [show zc (sH R (k + 1) i) = 1 by unfold sH; omega], rfl, rfl⟩)
set_option maxHeartbeats 4000000 in
set_option maxRecDepth 100000 in
theorem c_S_add {σ : xS} {R : xR} (k : Int) (hk : (σ k).2 = (19, 0)) (hk1 : (σ (k + 1)).2 = (37, 7)) (i : Int) (hi : 0 ≤ i ∧ i < 448) : Ct m_S_add 2 0 0 [.ref (σ k).1, vi i] σ R (Zm σ (fun z R1 => z = zc (¬ sH R (k + 1) i) ∧ (∀ a, a ≠ k + 1 → R1 a = R a) ∧ ∀ c, 0 ≤ c → c < 448 → (sH R1 (k + 1) c ↔ sH R (k + 1) c ∨ c = i))) := by
  refine Ct.of [some (.ref ((σ k).1)), some (vi i), none] rfl (by decide +kernel) (lr rfl) (fun X => ?_)
  have hthis := thisS hk
  have hz9 := zc_or (sH R (k + 1) i)
  refine x_aload_n d_S_add_0 0 rfl rfl ?_
  refine x_iload_n d_S_add_1 1 rfl rfl ?_
  refine x_cvi k (As := [vi i]) (c_S_has k hk hk1 i hi) cs_S_15 hthis rfl rfl (lr rfl) d_S_add_2 (lr rfl) ⟨lr rfl, lr rfl⟩ ?_
  refine x_if_ne (tgt := 12) d_S_add_5 rfl (by omega) (fun c5 => ?_) (fun c5 => ?_)
  · refine x_iconst d_S_add_12 ?_
    refine x_istore_n d_S_add_13 2 rfl [some (.ref ((σ k).1)), some (vi i), some (vi 0)] rfl rfl (lr rfl) ?_
    refine x_aload_n d_S_add_14 0 rfl rfl ?_
    refine x_get3 k 0 (k + 1) fl_S_9 tk_19_0 hk rfl rfl d_S_add_15 ?_
    refine x_iload_n d_S_add_18 1 rfl rfl ?_
    refine x_bipush d_S_add_19 rfl ?_
    refine x_ishr d_S_add_21 (i / 64) (item_shr hi) ?_
    refine x_dup2 d_S_add_22 rfl rfl ?_
    refine x_lald (k + 1) (R (k + 1) (i / 64)) hk1 rfl ⟨by decide, rfl, by decide⟩ rfl (by omega) rfl d_S_add_23 ?_
    refine x_lconst d_S_add_24 rfl ?_
    refine x_iload_n d_S_add_25 1 rfl rfl ?_
    refine x_bipush d_S_add_26 rfl ?_
    refine x_iand d_S_add_28 (i % 64) (item_and hi) ?_
    refine x_lshl d_S_add_29 ((lI 1 <<< ((iI (i % 64)).toInt64 &&& 63)).toInt) (lI_toInt _) ?_
    refine x_lor d_S_add_30 ((lI (R (k + 1) (i / 64)) ||| lI ((lI 1 <<< ((iI (i % 64)).toInt64 &&& 63)).toInt)).toInt) (lI_toInt _) ?_
    refine x_last (k + 1) hk1 rfl ⟨by decide, rfl, by decide⟩ rfl (by omega) d_S_add_31 (fun Q1 hQ1 => ?_)
    refine x_iload_n d_S_add_32 2 rfl rfl ?_
    exact x_zret d_S_add_33 rfl (narz (by omega)) (lr rfl) (lr rfl) (⟨_, rfl, rfl, (zc_f (fun q => q (zc_eq1.mp (by omega)))).symm, fun a ha => by funext b; exact xr_o hQ1 ha, fun c c1 c2 => by rw [sH_set hQ1]; by_cases e : c / 64 = i / 64; (rw [if_pos e, lb_or (by omega) (by omega)]; unfold sH; rw [e]; exact or_congr Iff.rfl (by omega)); (rw [if_neg e]; exact ⟨Or.inl, fun q => q.resolve_right (fun q2 => e (by rw [q2]))⟩)⟩)
  · refine x_iconst d_S_add_8 ?_
    refine x_goto (tgt := 13) d_S_add_9 rfl ?_
    refine x_istore_n d_S_add_13 2 rfl [some (.ref ((σ k).1)), some (vi i), some (vi 1)] rfl rfl (lr rfl) ?_
    refine x_aload_n d_S_add_14 0 rfl rfl ?_
    refine x_get3 k 0 (k + 1) fl_S_9 tk_19_0 hk rfl rfl d_S_add_15 ?_
    refine x_iload_n d_S_add_18 1 rfl rfl ?_
    refine x_bipush d_S_add_19 rfl ?_
    refine x_ishr d_S_add_21 (i / 64) (item_shr hi) ?_
    refine x_dup2 d_S_add_22 rfl rfl ?_
    refine x_lald (k + 1) (R (k + 1) (i / 64)) hk1 rfl ⟨by decide, rfl, by decide⟩ rfl (by omega) rfl d_S_add_23 ?_
    refine x_lconst d_S_add_24 rfl ?_
    refine x_iload_n d_S_add_25 1 rfl rfl ?_
    refine x_bipush d_S_add_26 rfl ?_
    refine x_iand d_S_add_28 (i % 64) (item_and hi) ?_
    refine x_lshl d_S_add_29 ((lI 1 <<< ((iI (i % 64)).toInt64 &&& 63)).toInt) (lI_toInt _) ?_
    refine x_lor d_S_add_30 ((lI (R (k + 1) (i / 64)) ||| lI ((lI 1 <<< ((iI (i % 64)).toInt64 &&& 63)).toInt)).toInt) (lI_toInt _) ?_
    refine x_last (k + 1) hk1 rfl ⟨by decide, rfl, by decide⟩ rfl (by omega) d_S_add_31 (fun Q2 hQ2 => ?_)
    refine x_iload_n d_S_add_32 2 rfl rfl ?_
    exact x_zret d_S_add_33 rfl (narz (by omega)) (lr rfl) (lr rfl) (⟨_, rfl, rfl, (zc_t (zc_eq0.mp (by omega))).symm, fun a ha => by funext b; exact xr_o hQ2 ha, fun c c1 c2 => by rw [sH_set hQ2]; by_cases e : c / 64 = i / 64; (rw [if_pos e, lb_or (by omega) (by omega)]; unfold sH; rw [e]; exact or_congr Iff.rfl (by omega)); (rw [if_neg e]; exact ⟨Or.inl, fun q => q.resolve_right (fun q2 => e (by rw [q2]))⟩)⟩)
set_option maxHeartbeats 4000000 in
set_option maxRecDepth 100000 in
theorem c_S_clear {σ : xS} {R : xR} (k : Int) (hk : (σ k).2 = (19, 0)) (hk1 : (σ (k + 1)).2 = (37, 7)) : Ct m_S_clear 1 0 0 [.ref (σ k).1] σ R (Zv σ (fun R1 => (∀ a, a ≠ k + 1 → R1 a = R a) ∧ ∀ c, 0 ≤ c → c < 448 → ¬ sH R1 (k + 1) c)) := by
  refine Ct.of [some (.ref ((σ k).1)), none] rfl (by decide +kernel) (lr rfl) (fun X => ?_)
  have hl : ∀ (m : Nat) (w : Int) (R1 : xR), (7 - w).toNat = m → (0 ≤ w ∧ w ≤ 7) → (∀ a, a ≠ k + 1 → R1 a = R a) → (∀ c, 0 ≤ c → c < 64 * w → ¬ sH R1 (k + 1) c) → V X m_S_clear (1, 0, 0, Zv σ (fun R1 => (∀ a, a ≠ k + 1 → R1 a = R a) ∧ ∀ c, 0 ≤ c → c < 448 → ¬ sH R1 (k + 1) c)) σ R1 0 0 2 [some (.ref ((σ k).1)), some (vi w)] [] := by
    intro m
    induction m using Nat.strongRecOn with
    | _ m ih =>
      intro w R1 hm hw hkp hno
      refine x_iload_n d_S_clear_2 1 rfl rfl ?_
      refine x_bipush d_S_clear_3 rfl ?_
      refine x_icmp_ge (tgt := 21) d_S_clear_5 rfl (by omega) (by omega) (fun c5 => ?_) (fun c5 => ?_)
      · exact x_vret d_S_clear_21 rfl (lr rfl) (lr rfl) (⟨rfl, rfl, hkp, fun c c1 c2 => hno c c1 (by omega)⟩)
      · refine x_aload_n d_S_clear_8 0 rfl rfl ?_
        refine x_get3 k 0 (k + 1) fl_S_9 tk_19_0 hk rfl rfl d_S_clear_9 ?_
        refine x_iload_n d_S_clear_12 1 rfl rfl ?_
        refine x_lconst d_S_clear_13 rfl ?_
        refine x_last (k + 1) hk1 rfl ⟨by decide, rfl, by decide⟩ rfl (by omega) d_S_clear_14 (fun Q1 hQ1 => ?_)
        refine x_iinc d_S_clear_15 rfl [some (.ref ((σ k).1)), some (vi (w + 1))] rfl rfl (lr rfl) ?_
        refine x_goto (tgt := 2) d_S_clear_18 rfl ?_
        exact ih _ (by omega) (w + 1) Q1 rfl (by omega) (fun a ha => by rw [← hkp a ha]; funext b; exact xr_o hQ1 ha) (fun c c1 c2 => by
          rw [sH_set hQ1]
          by_cases e : c / 64 = w
          · rw [if_pos e]; exact lb_0
          · rw [if_neg e]; exact hno c c1 (by omega))
  refine x_iconst d_S_clear_0 ?_
  refine x_istore_n d_S_clear_1 1 rfl [some (.ref ((σ k).1)), some (vi 0)] rfl rfl (lr rfl) ?_
  exact hl _ 0 R rfl (by omega) (fun _ _ => rfl) (fun c a b => by omega)
set_option maxHeartbeats 4000000 in
set_option maxRecDepth 100000 in
theorem c_S_size {σ : xS} {R : xR} (k : Int) (hk : (σ k).2 = (19, 0)) (hk1 : (σ (k + 1)).2 = (37, 7)) : Ct m_S_size 2 0 0 [.ref (σ k).1] σ R (Zi σ R (sumF (fun i => zc (sH R (k + 1) i)) 448)) := by
  refine Ct.of [some (.ref ((σ k).1)), none, none] rfl (by decide +kernel) (lr rfl) (fun X => ?_)
  have hthis := thisS hk
  have hl : ∀ (m : Nat) (c : Int) (n : Int), (448 - c).toNat = m → (0 ≤ c ∧ c ≤ 448) → (n = sumF (fun i => zc (sH R (k + 1) i)) c.toNat) → V X m_S_size (2, 0, 0, Zi σ R (sumF (fun i => zc (sH R (k + 1) i)) 448)) σ R 0 0 4 [some (.ref ((σ k).1)), some (vi n), some (vi c)] [] := by
    intro m
    induction m using Nat.strongRecOn with
    | _ m ih =>
      intro c n hm hc hn
      refine x_iload_n d_S_size_4 2 rfl rfl ?_
      refine x_sipush d_S_size_5 rfl ?_
      refine x_icmp_ge (tgt := 33) d_S_size_8 rfl (by omega) (by omega) (fun c8 => ?_) (fun c8 => ?_)
      · refine x_iload_n d_S_size_33 1 rfl rfl ?_
        exact x_iret d_S_size_34 rfl (lr rfl) (lr rfl) (⟨by rw [hn, show c = 448 by omega]; rfl, rfl, rfl⟩)
      · have hz9 := zc_or (sH R (k + 1) c)
        have hb9 := sumF_rng (f := fun i => zc (sH R (k + 1) i)) (c := 1) (fun i => by have := zc_or (sH R (k + 1) i); show 0 ≤ zc (sH R (k + 1) i) ∧ zc (sH R (k + 1) i) ≤ 1; omega) c.toNat
        refine x_iload_n d_S_size_11 1 rfl rfl ?_
        refine x_aload_n d_S_size_12 0 rfl rfl ?_
        refine x_iload_n d_S_size_13 2 rfl rfl ?_
        refine x_cvi k (As := [vi c]) (c_S_has k hk hk1 c (by omega)) cs_S_15 hthis rfl rfl (lr rfl) d_S_size_14 (lr rfl) ⟨lr rfl, lr rfl⟩ ?_
        refine x_if_eq (tgt := 24) d_S_size_17 rfl (by omega) (fun c17 => ?_) (fun c17 => ?_)
        · refine x_iconst d_S_size_24 ?_
          refine x_iadd d_S_size_25 ?_
          refine x_istore_n d_S_size_26 1 rfl [some (.ref ((σ k).1)), some (vi (n + 0)), some (vi c)] rfl rfl (lr rfl) ?_
          refine x_iinc d_S_size_27 rfl [some (.ref ((σ k).1)), some (vi (n + 0)), some (vi (c + 1))] rfl rfl (lr rfl) ?_
          refine x_goto (tgt := 4) d_S_size_30 rfl ?_
          exact ih _ (by omega) (c + 1) (n + 0) rfl (by omega) (by rw [sumF_nx (by omega)]; show _ = _ + zc (sH R (k + 1) c); omega)
        · refine x_iconst d_S_size_20 ?_
          refine x_goto (tgt := 25) d_S_size_21 rfl ?_
          refine x_iadd d_S_size_25 ?_
          refine x_istore_n d_S_size_26 1 rfl [some (.ref ((σ k).1)), some (vi (n + 1)), some (vi c)] rfl rfl (lr rfl) ?_
          refine x_iinc d_S_size_27 rfl [some (.ref ((σ k).1)), some (vi (n + 1)), some (vi (c + 1))] rfl rfl (lr rfl) ?_
          refine x_goto (tgt := 4) d_S_size_30 rfl ?_
          exact ih _ (by omega) (c + 1) (n + 1) rfl (by omega) (by rw [sumF_nx (by omega)]; show _ = _ + zc (sH R (k + 1) c); omega)
  refine x_iconst d_S_size_0 ?_
  refine x_istore_n d_S_size_1 1 rfl [some (.ref ((σ k).1)), some (vi 0), none] rfl rfl (lr rfl) ?_
  refine x_iconst d_S_size_2 ?_
  refine x_istore_n d_S_size_3 2 rfl [some (.ref ((σ k).1)), some (vi 0), some (vi 0)] rfl rfl (lr rfl) ?_
  exact hl _ 0 0 rfl (by omega) rfl
set_option maxHeartbeats 4000000 in
set_option maxRecDepth 100000 in
theorem c_S_isEmpty {σ : xS} {R : xR} (k : Int) (hk : (σ k).2 = (19, 0)) (hk1 : (σ (k + 1)).2 = (37, 7)) : Ct m_S_isEmpty 1 0 0 [.ref (σ k).1] σ R (Zi σ R (zc (∀ c, 0 ≤ c → c < 448 → ¬ sH R (k + 1) c))) := by
  refine Ct.of [some (.ref ((σ k).1)), none, none] rfl (by decide +kernel) (lr rfl) (fun X => ?_)
  have hl : ∀ (m : Nat) (w : Int) (g : Int), (7 - w).toNat = m → (0 ≤ w ∧ w ≤ 7) → (g = zc (∀ c, 0 ≤ c → c < 64 * w → ¬ sH R (k + 1) c)) → V X m_S_isEmpty (1, 0, 0, Zi σ R (zc (∀ c, 0 ≤ c → c < 448 → ¬ sH R (k + 1) c))) σ R 0 0 4 [some (.ref ((σ k).1)), some (vi g), some (vi w)] [] := by
    intro m
    induction m using Nat.strongRecOn with
    | _ m ih =>
      intro w g hm hw hf
      refine x_iload_n d_S_isEmpty_4 2 rfl rfl ?_
      refine x_bipush d_S_isEmpty_5 rfl ?_
      refine x_icmp_ge (tgt := 37) d_S_isEmpty_7 rfl (by omega) (by omega) (fun c7 => ?_) (fun c7 => ?_)
      · refine x_iload_n d_S_isEmpty_37 1 rfl rfl ?_
        exact x_zret d_S_isEmpty_38 rfl (narz (by rw [hf]; exact zc_or _)) (lr rfl) (lr rfl) (⟨by rw [hf, show w = 7 by omega, show (64 : Int) * 7 = 448 by decide], rfl, rfl⟩)
      · have hz9 := zc_or (∀ c, 0 ≤ c → c < 64 * w → ¬ sH R (k + 1) c)
        refine x_iload_n d_S_isEmpty_10 1 rfl rfl ?_
        refine x_if_eq (tgt := 29) d_S_isEmpty_11 rfl (by omega) (fun c11 => ?_) (fun c11 => ?_)
        · refine x_iconst d_S_isEmpty_29 ?_
          refine x_istore_n d_S_isEmpty_30 1 rfl [some (.ref ((σ k).1)), some (vi 0), some (vi w)] rfl rfl (lr rfl) ?_
          refine x_iinc d_S_isEmpty_31 rfl [some (.ref ((σ k).1)), some (vi 0), some (vi (w + 1))] rfl rfl (lr rfl) ?_
          refine x_goto (tgt := 4) d_S_isEmpty_34 rfl ?_
          exact ih _ (by omega) (w + 1) 0 rfl (by omega) ((zc_f (fun q => absurd (zc_t (fun c c1 c2 => q c c1 (by omega)) : zc (∀ c, 0 ≤ c → c < 64 * w → ¬ sH R (k + 1) c) = 1) (by omega))).symm)
        · have hr9 := lcmp0_r (a := R (k + 1) w) (b := 0)
          refine x_aload_n d_S_isEmpty_14 0 rfl rfl ?_
          refine x_get3 k 0 (k + 1) fl_S_9 tk_19_0 hk rfl rfl d_S_isEmpty_15 ?_
          refine x_iload_n d_S_isEmpty_18 2 rfl rfl ?_
          refine x_lald (k + 1) (R (k + 1) w) hk1 rfl ⟨by decide, rfl, by decide⟩ rfl (by omega) rfl d_S_isEmpty_19 ?_
          refine x_lconst d_S_isEmpty_20 rfl ?_
          refine x_lcmp d_S_isEmpty_21 (if lI (R (k + 1) w) > lI 0 then (1 : Int) else if lI (R (k + 1) w) = lI 0 then 0 else -1) (lcmp0) ?_
          refine x_if_ne (tgt := 29) d_S_isEmpty_22 rfl (by omega) (fun c22 => ?_) (fun c22 => ?_)
          · refine x_iconst d_S_isEmpty_29 ?_
            refine x_istore_n d_S_isEmpty_30 1 rfl [some (.ref ((σ k).1)), some (vi 0), some (vi w)] rfl rfl (lr rfl) ?_
            refine x_iinc d_S_isEmpty_31 rfl [some (.ref ((σ k).1)), some (vi 0), some (vi (w + 1))] rfl rfl (lr rfl) ?_
            refine x_goto (tgt := 4) d_S_isEmpty_34 rfl ?_
            exact ih _ (by omega) (w + 1) 0 rfl (by omega) ((zc_f (fun q => c22 (lcmp0_e.mpr (lb_ext (fun b b1 b2 => ⟨fun q2 => absurd q2 (by have := q (64 * w + b) (by omega) (by omega); unfold sH at this; rw [show (64 * w + b) / 64 = w by omega, show (64 * w + b) % 64 = b by omega] at this; exact this), fun q2 => absurd q2 lb_0⟩))))).symm)
          · refine x_iconst d_S_isEmpty_25 ?_
            refine x_goto (tgt := 30) d_S_isEmpty_26 rfl ?_
            refine x_istore_n d_S_isEmpty_30 1 rfl [some (.ref ((σ k).1)), some (vi 1), some (vi w)] rfl rfl (lr rfl) ?_
            refine x_iinc d_S_isEmpty_31 rfl [some (.ref ((σ k).1)), some (vi 1), some (vi (w + 1))] rfl rfl (lr rfl) ?_
            refine x_goto (tgt := 4) d_S_isEmpty_34 rfl ?_
            have h0 : (if lI (R (k + 1) w) > lI 0 then (1 : Int) else if lI (R (k + 1) w) = lI 0 then 0 else -1) = 0 := by omega
            exact ih _ (by omega) (w + 1) 1 rfl (by omega) ((zc_t (fun c c1 c2 => by by_cases e : c < 64 * w; exact zc_eq1.mp (hf.symm.trans (by omega : g = 1)) c c1 e; (unfold sH lb; rw [show c / 64 = w by omega, lcmp0_e.mp h0]; exact fun q => lb_0 (i := c % 64) q))).symm)
  refine x_iconst d_S_isEmpty_0 ?_
  refine x_istore_n d_S_isEmpty_1 1 rfl [some (.ref ((σ k).1)), some (vi 1), none] rfl rfl (lr rfl) ?_
  refine x_iconst d_S_isEmpty_2 ?_
  refine x_istore_n d_S_isEmpty_3 2 rfl [some (.ref ((σ k).1)), some (vi 1), some (vi 0)] rfl rfl (lr rfl) ?_
  exact hl _ 0 1 rfl (by omega) (zc_t (fun c a b => by omega)).symm
set_option maxHeartbeats 4000000 in
set_option maxRecDepth 100000 in
theorem c_S_alike {σ : xS} {R : xR} (k : Int) (hk : (σ k).2 = (19, 0)) (hk1 : (σ (k + 1)).2 = (37, 7)) (j : Int) (hj : (σ j).2 = (19, 0)) (hj1 : (σ (j + 1)).2 = (37, 7)) : Ct m_S_alike 1 0 0 [.ref (σ k).1, .ref (σ j).1] σ R (Zi σ R (zc (∀ c, 0 ≤ c → c < 448 → (sH R (k + 1) c ↔ sH R (j + 1) c)))) := by
  refine Ct.of [some (.ref ((σ k).1)), some (.ref ((σ j).1)), none, none] rfl (by decide +kernel) (lr rfl) (fun X => ?_)
  have hl : ∀ (m : Nat) (w : Int) (g : Int), (7 - w).toNat = m → (0 ≤ w ∧ w ≤ 7) → (g = zc (∀ c, 0 ≤ c → c < 64 * w → (sH R (k + 1) c ↔ sH R (j + 1) c))) → V X m_S_alike (1, 0, 0, Zi σ R (zc (∀ c, 0 ≤ c → c < 448 → (sH R (k + 1) c ↔ sH R (j + 1) c)))) σ R 0 0 4 [some (.ref ((σ k).1)), some (.ref ((σ j).1)), some (vi g), some (vi w)] [] := by
    intro m
    induction m using Nat.strongRecOn with
    | _ m ih =>
      intro w g hm hw hf
      refine x_iload_n d_S_alike_4 3 rfl rfl ?_
      refine x_bipush d_S_alike_5 rfl ?_
      refine x_icmp_ge (tgt := 42) d_S_alike_7 rfl (by omega) (by omega) (fun c7 => ?_) (fun c7 => ?_)
      · refine x_iload_n d_S_alike_42 2 rfl rfl ?_
        exact x_zret d_S_alike_43 rfl (narz (by rw [hf]; exact zc_or _)) (lr rfl) (lr rfl) (⟨by rw [hf, show w = 7 by omega, show (64 : Int) * 7 = 448 by decide], rfl, rfl⟩)
      · have hz9 := zc_or (∀ c, 0 ≤ c → c < 64 * w → (sH R (k + 1) c ↔ sH R (j + 1) c))
        refine x_iload_n d_S_alike_10 2 rfl rfl ?_
        refine x_if_eq (tgt := 42) d_S_alike_11 rfl (by omega) (fun c11 => ?_) (fun c11 => ?_)
        · refine x_iload_n d_S_alike_42 2 rfl rfl ?_
          exact x_zret d_S_alike_43 rfl (narz (by rw [hf]; exact zc_or _)) (lr rfl) (lr rfl) (⟨by rw [hf, zc_f (fun q => zc_eq0.mp (hf.symm.trans (by omega : g = 0)) q), zc_f (fun q => zc_eq0.mp (hf.symm.trans (by omega : g = 0)) (fun c c1 c2 => q c c1 (by omega)))], rfl, rfl⟩)
        · have hr9 := lcmp0_r (a := R (k + 1) w) (b := R (j + 1) w)
          refine x_aload_n d_S_alike_14 0 rfl rfl ?_
          refine x_get3 k 0 (k + 1) fl_S_9 tk_19_0 hk rfl rfl d_S_alike_15 ?_
          refine x_iload_n d_S_alike_18 3 rfl rfl ?_
          refine x_lald (k + 1) (R (k + 1) w) hk1 rfl ⟨by decide, rfl, by decide⟩ rfl (by omega) rfl d_S_alike_19 ?_
          refine x_aload_n d_S_alike_20 1 rfl rfl ?_
          refine x_get3 j 0 (j + 1) fl_S_9 tk_19_0 hj rfl rfl d_S_alike_21 ?_
          refine x_iload_n d_S_alike_24 3 rfl rfl ?_
          refine x_lald (j + 1) (R (j + 1) w) hj1 rfl ⟨by decide, rfl, by decide⟩ rfl (by omega) rfl d_S_alike_25 ?_
          refine x_lcmp d_S_alike_26 (if lI (R (k + 1) w) > lI (R (j + 1) w) then (1 : Int) else if lI (R (k + 1) w) = lI (R (j + 1) w) then 0 else -1) (lcmp0) ?_
          refine x_if_ne (tgt := 34) d_S_alike_27 rfl (by omega) (fun c27 => ?_) (fun c27 => ?_)
          · refine x_iconst d_S_alike_34 ?_
            refine x_istore_n d_S_alike_35 2 rfl [some (.ref ((σ k).1)), some (.ref ((σ j).1)), some (vi 0), some (vi w)] rfl rfl (lr rfl) ?_
            refine x_iinc d_S_alike_36 rfl [some (.ref ((σ k).1)), some (.ref ((σ j).1)), some (vi 0), some (vi (w + 1))] rfl rfl (lr rfl) ?_
            refine x_goto (tgt := 4) d_S_alike_39 rfl ?_
            exact ih _ (by omega) (w + 1) 0 rfl (by omega) (zc_f (fun q => c27 (lcmp0_e.mpr ((sH_word (R := R) (R1 := R) (k := k + 1) (j := j + 1) (w := w) (by omega)).mpr (fun i i1 i2 => q i (by omega) (by omega)))))).symm
          · refine x_iconst d_S_alike_30 ?_
            refine x_goto (tgt := 35) d_S_alike_31 rfl ?_
            refine x_istore_n d_S_alike_35 2 rfl [some (.ref ((σ k).1)), some (.ref ((σ j).1)), some (vi 1), some (vi w)] rfl rfl (lr rfl) ?_
            refine x_iinc d_S_alike_36 rfl [some (.ref ((σ k).1)), some (.ref ((σ j).1)), some (vi 1), some (vi (w + 1))] rfl rfl (lr rfl) ?_
            refine x_goto (tgt := 4) d_S_alike_39 rfl ?_
            have h0 : (if lI (R (k + 1) w) > lI (R (j + 1) w) then (1 : Int) else if lI (R (k + 1) w) = lI (R (j + 1) w) then 0 else -1) = 0 := by omega
            have h1 := (sH_word (R := R) (R1 := R) (k := k + 1) (j := j + 1) (w := w) (by omega)).mp (lcmp0_e.mp h0)
            exact ih _ (by omega) (w + 1) 1 rfl (by omega) (zc_t (fun c c1 c2 => by by_cases e : c < 64 * w; exact zc_eq1.mp (hf.symm.trans (by omega : g = 1)) c c1 e; exact h1 c (by omega) (by omega))).symm
  refine x_iconst d_S_alike_0 ?_
  refine x_istore_n d_S_alike_1 2 rfl [some (.ref ((σ k).1)), some (.ref ((σ j).1)), some (vi 1), none] rfl rfl (lr rfl) ?_
  refine x_iconst d_S_alike_2 ?_
  refine x_istore_n d_S_alike_3 3 rfl [some (.ref ((σ k).1)), some (.ref ((σ j).1)), some (vi 1), some (vi 0)] rfl rfl (lr rfl) ?_
  exact hl _ 0 1 rfl (by omega) (zc_t (fun c a b => by omega)).symm
