/-! Rule (walks printed by gen/rule.py): the object at region k, its right side at k + 1; State's constructor -/
theorem c_S_init {σ : xS} {R : xR} (k : Int) (hk : (σ k).2 = (3, 0)) (h9 : k < 90 ∨ 99 < k) (h91 : k + 1 < 90 ∨ 99 < k + 1) (hf : (σ (k + 1)).2.1 = 0) : Ct m_S_init 1 1 7 [.ref (σ k).1] σ R (fun o σ' R' => o = .returned none ∧ (∃ q, σ' = xsu (xsu σ (k + 1) (q, 37, 7)) k ((σ k).1, 19, 0)) ∧ (∀ i, R' (k + 1) i = 0) ∧ ∀ a, a ≠ k → a ≠ k + 1 → R' a = R a) := by
  refine Ct.of [some (.ref (σ k).1)] rfl (by decide +kernel) (lr rfl) (fun X => ?_)
  have hkk : k ≠ k + 1 := by omega
  refine x_aload_n d_S_init_0 0 rfl rfl ?_
  refine x_objInit oi_S oi_in oi_co (lr rfl) d_S_init_1 (lr rfl) ?_
  refine x_aload_n d_S_init_4 0 rfl rfl ?_
  refine x_bipush d_S_init_5 rfl ?_
  refine x_newa (k + 1) 37 h91 hf na_37 ac_long rfl (lr rfl) d_S_init_7 ⟨lr rfl, lr rfl⟩ (fun q => ?_)
  refine x_putFr k 0 0 ((q : Int) + 1) ff_S_9 rfl tk_3_0 (by rw [xsu_ne _ _ hkk]; exact hk) (by rw [xsu_ne _ _ hkk]) rfl rfl ⟨rfl, rfl⟩ d_S_init_9 (fun R1 hR1 => ?_)
  refine V.made k 19 (C := R_State) (T := F_State) (N := 1) (a := (σ k).1) (t := 3) (n := 0) h9 (by rw [xsu_ne _ _ hkk]; exact Prod.ext rfl hk) (by decide) (by decide) rfl (fun j hj => ?_) (fun j hj c hc => ?_) ?_
  · have : j = 0 := by omega
    subst this
    show rz (R1 k 0) = Value.ref (xsu σ (k + 1) (q, 37, 7) (k + 1)).1
    rw [xr_s hR1, xsu_self]
    rfl
  · have : j = 0 := by omega
    subst this
    have e : k + 1 = c := Option.some.inj hc
    rw [← e, xsu_self]
    show (37 : Nat) ≠ 0
    decide
  · exact x_vret d_S_init_12 rfl (lr rfl) (lr rfl) ⟨rfl, ⟨q, rfl⟩, fun i => by rw [xr_o hR1 (fun e => hkk e.symm), xru_self], fun a a1 a2 => by funext i; rw [xr_o hR1 a1, xru_ne _ _ a2]⟩
theorem c_R_init {σ : xS} {R : xR} (k l : Int) (n : Nat) (hk : (σ k).2 = (2, 0)) (h9 : k < 90 ∨ 99 < k) (hf : (σ (k + 1)).2 = (32, n)) : Ct m_R_init 1 0 0 [.ref (σ k).1, vi l, .ref (σ (k + 1)).1] σ R (fun o σ' R' => o = .returned none ∧ σ' = xsu σ k ((σ k).1, 18, 0) ∧ R' k 0 = l ∧ ∀ a, a ≠ k → R' a = R a) := by
  refine Ct.of [some (.ref (σ k).1), some (vi l), some (.ref (σ (k + 1)).1)] rfl (by decide +kernel) (lr rfl) (fun X => ?_)
  refine x_aload_n d_R_init_0 0 rfl rfl ?_
  refine x_objInit oi_R oi_in oi_co (lr rfl) d_R_init_1 (lr rfl) ?_
  refine x_aload_n d_R_init_4 0 rfl rfl ?_
  refine x_iload_n d_R_init_5 1 rfl rfl ?_
  refine x_putFi k 0 0 ff_R_7 rfl tk_2_0 hk rfl rfl ⟨rfl, rfl⟩ d_R_init_6 (fun R1 hR1 => ?_)
  refine x_aload_n d_R_init_9 0 rfl rfl ?_
  refine x_aload_n d_R_init_10 2 rfl rfl ?_
  refine x_putFr k 1 1 (((σ (k + 1)).1 : Int) + 1) ff_R_13 rfl tk_2_1 hk rfl rfl rfl ⟨rfl, rfl⟩ d_R_init_11 (fun R2 hR2 => ?_)
  refine V.made k 18 (C := R_Rule) (T := F_Rule) (N := 2) (a := (σ k).1) (t := 2) (n := 0) h9 (Prod.ext rfl hk) (by decide) (by decide) rfl (fun j hj => ?_) (fun j hj c hc => ?_) ?_
  · rcases (show j = 0 ∨ j = 1 by omega) with rfl | rfl
    · rfl
    · show rz (R2 k 1) = Value.ref (σ (k + 1)).1
      rw [xr_s hR2]
      rfl
  · rcases (show j = 0 ∨ j = 1 by omega) with rfl | rfl
    · cases hc
    · have e : k + 1 = c := Option.some.inj hc
      rw [← e, hf]
      show (32 : Nat) ≠ 0
      decide
  · exact x_vret d_R_init_14 rfl (lr rfl) (lr rfl) ⟨rfl, rfl, by rw [xr_d hR2 (by decide), xr_s hR1], fun a a1 => by funext i; rw [xr_o hR2 a1, xr_o hR1 a1]⟩
theorem thisR {σ : xS} {k : Int} (hk : (σ k).2 = (18, 0)) : xRc σ k (σ k).1 "RepairDesk$Rule" := ⟨rfl, 18, 0, 1, F_Rule, 2, hk, by decide, rfl⟩
set_option maxHeartbeats 4000000 in
set_option maxRecDepth 100000 in
theorem c_R_alike {σ : xS} {R : xR} (k j : Int) (n n2 : Nat) (hn : n ≤ 100 ∧ n2 ≤ 100) (hk : (σ k).2 = (18, 0)) (hk1 : (σ (k + 1)).2 = (32, n)) (hj : (σ j).2 = (18, 0)) (hj1 : (σ (j + 1)).2 = (32, n2)) (hr : ∀ a b : Int, (a = k ∧ b = 0 ∨ a = j ∧ b = 0 ∨ a = k + 1 ∧ 0 ≤ b ∧ b < n ∨ a = j + 1 ∧ 0 ≤ b ∧ b < n2) → 0 ≤ R a b ∧ R a b ≤ 100) : Ct m_R_alike 1 0 0 [.ref (σ k).1, .ref (σ j).1] σ R (Zi σ R (zc (R k 0 = R j 0 ∧ (n : Int) = n2 ∧ ∀ c, 0 ≤ c → c < (n : Int) → R (k + 1) c = R (j + 1) c))) := by
  refine Ct.of [some (.ref ((σ k).1)), some (.ref ((σ j).1)), none, none] rfl (by decide +kernel) (lr rfl) (fun X => ?_)
  have hr1 := hr k 0 (by omega)
  have hr2 := hr j 0 (by omega)
  have hl : ∀ (m : Nat) (i : Int) (g : Int), ((n : Int) - i).toNat = m → (0 ≤ i ∧ i ≤ (n : Int)) → (g = zc (R k 0 = R j 0 ∧ (n : Int) = n2 ∧ ∀ c, 0 ≤ c → c < i → R (k + 1) c = R (j + 1) c)) → V X m_R_alike (1, 0, 0, Zi σ R (zc (R k 0 = R j 0 ∧ (n : Int) = n2 ∧ ∀ c, 0 ≤ c → c < (n : Int) → R (k + 1) c = R (j + 1) c))) σ R 0 0 32 [some (.ref ((σ k).1)), some (.ref ((σ j).1)), some (vi g), some (vi i)] [] := by
    intro m
    induction m using Nat.strongRecOn with
    | _ m ih =>
      intro i g hm hi hf
      refine x_iload_n d_R_alike_32 3 rfl rfl ?_
      refine x_aload_n d_R_alike_33 0 rfl rfl ?_
      refine x_get3 k 1 (k + 1) fl_R_13 tk_18_1 hk rfl rfl d_R_alike_34 ?_
      refine x_len (k + 1) hk1 rfl (by decide) d_R_alike_37 ?_
      refine V.teq (n : Int) (rfl) ?_
      refine x_icmp_ge (tgt := 72) d_R_alike_38 rfl (by omega) (by omega) (fun c38 => ?_) (fun c38 => ?_)
      · refine x_iload_n d_R_alike_72 2 rfl rfl ?_
        exact x_zret d_R_alike_73 rfl (narz (by rw [hf]; exact zc_or _)) (lr rfl) (lr rfl) (⟨by rw [hf, show i = (n : Int) by omega], rfl, rfl⟩)
      · have hz9 := zc_or (R k 0 = R j 0 ∧ (n : Int) = n2 ∧ ∀ c, 0 ≤ c → c < i → R (k + 1) c = R (j + 1) c)
        refine x_iload_n d_R_alike_41 2 rfl rfl ?_
        refine x_if_eq (tgt := 72) d_R_alike_42 rfl (by omega) (fun c42 => ?_) (fun c42 => ?_)
        · refine x_iload_n d_R_alike_72 2 rfl rfl ?_
          exact x_zret d_R_alike_73 rfl (narz (by rw [hf]; exact zc_or _)) (lr rfl) (lr rfl) (⟨by rw [hf, zc_f (zc_eq0.mp (hf.symm.trans (by omega : g = 0))), zc_f (fun q => zc_eq0.mp (hf.symm.trans (by omega : g = 0)) ⟨q.1, q.2.1, fun c c1 c2 => q.2.2 c c1 (by omega)⟩)], rfl, rfl⟩)
        · have q9 := (zc_eq1.mp (hf.symm.trans (by omega : g = 1))).2.1
          have hr3 := hr (k + 1) i (by omega)
          have hr4 := hr (j + 1) i (by omega)
          refine x_aload_n d_R_alike_45 0 rfl rfl ?_
          refine x_get3 k 1 (k + 1) fl_R_13 tk_18_1 hk rfl rfl d_R_alike_46 ?_
          refine x_iload_n d_R_alike_49 3 rfl rfl ?_
          refine x_iald (k + 1) (R (k + 1) i) hk1 rfl ⟨by decide, rfl, by omega⟩ rfl (by omega) rfl d_R_alike_50 ?_
          refine x_aload_n d_R_alike_51 1 rfl rfl ?_
          refine x_get3 j 1 (j + 1) fl_R_13 tk_18_1 hj rfl rfl d_R_alike_52 ?_
          refine x_iload_n d_R_alike_55 3 rfl rfl ?_
          refine x_iald (j + 1) (R (j + 1) i) hj1 rfl ⟨by decide, rfl, by omega⟩ rfl (by omega) rfl d_R_alike_56 ?_
          refine x_icmp_ne (tgt := 64) d_R_alike_57 rfl (by omega) (by omega) (fun c57 => ?_) (fun c57 => ?_)
          · refine x_iconst d_R_alike_64 ?_
            refine x_istore_n d_R_alike_65 2 rfl [some (.ref ((σ k).1)), some (.ref ((σ j).1)), some (vi 0), some (vi i)] rfl rfl (lr rfl) ?_
            refine x_iinc d_R_alike_66 rfl [some (.ref ((σ k).1)), some (.ref ((σ j).1)), some (vi 0), some (vi (i + 1))] rfl rfl (lr rfl) ?_
            refine x_goto (tgt := 32) d_R_alike_69 rfl ?_
            exact ih _ (by omega) (i + 1) 0 rfl (by omega) (zc_f (fun q => c57 (q.2.2 i (by omega) (by omega)))).symm
          · refine x_iconst d_R_alike_60 ?_
            refine x_goto (tgt := 65) d_R_alike_61 rfl ?_
            refine x_istore_n d_R_alike_65 2 rfl [some (.ref ((σ k).1)), some (.ref ((σ j).1)), some (vi 1), some (vi i)] rfl rfl (lr rfl) ?_
            refine x_iinc d_R_alike_66 rfl [some (.ref ((σ k).1)), some (.ref ((σ j).1)), some (vi 1), some (vi (i + 1))] rfl rfl (lr rfl) ?_
            refine x_goto (tgt := 32) d_R_alike_69 rfl ?_
            have q := zc_eq1.mp (hf.symm.trans (by omega : g = 1))
            exact ih _ (by omega) (i + 1) 1 rfl (by omega) (zc_t ⟨q.1, q.2.1, fun c c1 c2 => by by_cases e : c = i; (rw [e]; omega); exact q.2.2 c c1 (by omega)⟩).symm
  refine x_aload_n d_R_alike_0 0 rfl rfl ?_
  refine x_geti k 0 0 (R k 0) fl_R_7 tk_18_0 hk rfl rfl rfl d_R_alike_1 ?_
  refine x_aload_n d_R_alike_4 1 rfl rfl ?_
  refine x_geti j 0 0 (R j 0) fl_R_7 tk_18_0 hj rfl rfl rfl d_R_alike_5 ?_
  refine x_icmp_ne (tgt := 28) d_R_alike_8 rfl (by omega) (by omega) (fun c8 => ?_) (fun c8 => ?_)
  · refine x_iconst d_R_alike_28 ?_
    refine x_istore_n d_R_alike_29 2 rfl [some (.ref ((σ k).1)), some (.ref ((σ j).1)), some (vi 0), none] rfl rfl (lr rfl) ?_
    refine x_iconst d_R_alike_30 ?_
    refine x_istore_n d_R_alike_31 3 rfl [some (.ref ((σ k).1)), some (.ref ((σ j).1)), some (vi 0), some (vi 0)] rfl rfl (lr rfl) ?_
    exact hl _ 0 0 rfl (by omega) (zc_f (fun q => by have := q.1; have := q.2.1; omega)).symm
  · refine x_aload_n d_R_alike_11 0 rfl rfl ?_
    refine x_get3 k 1 (k + 1) fl_R_13 tk_18_1 hk rfl rfl d_R_alike_12 ?_
    refine x_len (k + 1) hk1 rfl (by decide) d_R_alike_15 ?_
    refine V.teq (n : Int) (rfl) ?_
    refine x_aload_n d_R_alike_16 1 rfl rfl ?_
    refine x_get3 j 1 (j + 1) fl_R_13 tk_18_1 hj rfl rfl d_R_alike_17 ?_
    refine x_len (j + 1) hj1 rfl (by decide) d_R_alike_20 ?_
    refine V.teq (n2 : Int) (rfl) ?_
    refine x_icmp_ne (tgt := 28) d_R_alike_21 rfl (by omega) (by omega) (fun c21 => ?_) (fun c21 => ?_)
    · refine x_iconst d_R_alike_28 ?_
      refine x_istore_n d_R_alike_29 2 rfl [some (.ref ((σ k).1)), some (.ref ((σ j).1)), some (vi 0), none] rfl rfl (lr rfl) ?_
      refine x_iconst d_R_alike_30 ?_
      refine x_istore_n d_R_alike_31 3 rfl [some (.ref ((σ k).1)), some (.ref ((σ j).1)), some (vi 0), some (vi 0)] rfl rfl (lr rfl) ?_
      exact hl _ 0 0 rfl (by omega) (zc_f (fun q => by have := q.1; have := q.2.1; omega)).symm
    · refine x_iconst d_R_alike_24 ?_
      refine x_goto (tgt := 29) d_R_alike_25 rfl ?_
      refine x_istore_n d_R_alike_29 2 rfl [some (.ref ((σ k).1)), some (.ref ((σ j).1)), some (vi 1), none] rfl rfl (lr rfl) ?_
      refine x_iconst d_R_alike_30 ?_
      refine x_istore_n d_R_alike_31 3 rfl [some (.ref ((σ k).1)), some (.ref ((σ j).1)), some (vi 1), some (vi 0)] rfl rfl (lr rfl) ?_
      exact hl _ 0 1 rfl (by omega) (zc_t ⟨by omega, by omega, fun c a b => by omega⟩).symm
