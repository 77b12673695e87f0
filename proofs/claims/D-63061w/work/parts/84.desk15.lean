/-! the desk: isClear (walk printed by gen/desk15.py) -/
/-- what isClear leaves of the row of leads of state k -/
def icP (G : xGr) (a : auT) (u : Int → Int) (m k : Int) (R : xR) (z : Int) (R1 : xR) : Prop := (∀ b, b ≠ 400 + k → R1 b = R b) ∧ (∀ x, 7 ≤ x → R1 (400 + k) x = R (400 + k) x) ∧ ((z = 0 ∧ gCf G (a.2.1 k)) ∨ (z = 1 ∧ ¬ gCf G (a.2.1 k) ∧ ∀ t, 0 ≤ t → t < 7 → dLt G a u m k t (R1 (400 + k) t)))
set_option maxHeartbeats 4000000 in
set_option maxRecDepth 100000 in
theorem c_D_isClear {σ : xS} {R : xR} (hD : dSh σ) (G : xGr) (a : auT) (u υ : Int → Int) (m eU : Int) (capU : Nat) (hUs : dUs σ R G u m υ eU capU) (π : Int → Int) (e n : Int) (cap : Nat) (hP : dPl σ R π e n cap) (hw : gW G) (ho : auOk G a) (k : Int) (hk : 0 ≤ k ∧ k < a.1 ∧ k < n) (hIt : dIt R u m (π k) = a.2.1 k) (hrow : ∀ t, 0 ≤ t → t < 7 → R (400 + k) t = dld a k t) : Ct m_D_isClear 4 0 0 [.ref (σ 1).1, vi k] σ R (Zm σ (fun z R1 => icP G a u m k R z R1)) := by
  refine Ct.of [some (.ref ((σ 1).1)), some (vi k), none, none, none, none] rfl (by decide +kernel) (lr rfl) (fun X => ?_)
  have hthis := thisD hD
  have hm9 := hUs.1.1
  have h40 := ho.2.2.1
  have hA3 := hUs.2.1
  have hA4 := hP.1
  obtain ⟨t1, t2, t3, t4⟩ := hP.2.2.2.2.1 k hk.1 hk.2.2
  have hst := thisS t2
  have hin : ∀ (R1 : xR), (∀ b, b ≠ 400 + k → R1 b = R b) → ∀ j t, 0 ≤ j → j < m → 0 ≤ t → t < 7 → (0 ≤ G.2.2.1 (u j) ∧ G.2.2.1 (u j) ≤ 4) → (sH R1 (π k + 1) ((j * 5 + G.2.2.1 (u j)) * 7 + t) ↔ a.2.1 k (u j) (G.2.2.1 (u j)) t) := by
    intro R1 h1 j t j0 j1 t0 t1 hl
    rw [← hIt, sH_eq (h1 (π k + 1) (by omega))]
    constructor
    · intro q
      exact ⟨j, ⟨j0, j1⟩, rfl, hl, ⟨t0, t1⟩, q⟩
    · rintro ⟨j', q1, q2, -, -, q⟩
      have e := hUs.1.2.2.2.1 j' j q1.1 q1.2 j0 j1 q2
      rw [← e]
      rw [← q2] at q
      exact q
  have hl : ∀ (mw : Nat) (j : Int) (R1 : xR), (m - j).toNat = mw → (0 ≤ j ∧ j ≤ m) → (∀ b, b ≠ 400 + k → R1 b = R b) → (∀ x, 7 ≤ x → R1 (400 + k) x = R (400 + k) x) → (∀ t', 0 ≤ t' → t' < 7 → iRw G a u m k j 0 t' (R1 (400 + k) t')) → V X m_D_isClear (4, 0, 0, Zm σ (fun z R1 => icP G a u m k R z R1)) σ R1 0 0 14 [some (.ref ((σ 1).1)), some (vi k), some (.ref ((σ (π k)).1)), some (vi j), none, none] [] := by
    intro mw
    induction mw using Nat.strongRecOn with
    | _ mw ih =>
      intro j R1 hm hj hkp hk7 hRw
      have hUs1 : dUs σ R1 G u m υ eU capU := hUs.keep (hkp 3 (by omega)) (hkp eU (by have := hUs.2.2.1; omega)) (fun j j0 j1 => ⟨hkp _ (by have := (hUs.2.2.2 j j0 j1).2.2.1; omega), hkp _ (by have := (hUs.2.2.2 j j0 j1).2.2.1; omega)⟩)
      have hA31 := hUs1.2.1
      refine x_iload_n d_D_isClear_14 3 rfl rfl ?_
      refine x_aload_n d_D_isClear_15 0 rfl rfl ?_
      refine x_getc 1 1 3 3 fl_D_16 tk_17_1 (hD.1.at 0 rfl) rfl rfl d_D_isClear_16 ?_
      refine x_cvi 3 (As := []) (c_AL_size 3 eU m capU hA31) cs_D_128 hA31.rc rfl rfl (lr rfl) d_D_isClear_19 (lr rfl) ⟨lr rfl, lr rfl⟩ ?_
      refine x_icmp_ge (tgt := 119) d_D_isClear_22 rfl (by omega) (by omega) (fun c22 => ?_) (fun c22 => ?_)
      · refine x_iconst d_D_isClear_119 ?_
        exact x_zret d_D_isClear_120 rfl (narz (Or.inr rfl)) (lr rfl) (lr rfl) (⟨_, rfl, rfl, hkp, hk7, Or.inr ⟨rfl, iRw.good hUs.1 ho ⟨hk.1, hk.2.1⟩ hIt (R1 (400 + k)) (fun t a0 a1 => by have h9 := hRw t a0 a1; rw [show j = m by omega] at h9; exact h9)⟩⟩)
      · have hrj := (hUs1.2.2.2 j (by omega) (by omega)).2.1
        have hlj0 := (hUs1.2.2.2 j (by omega) (by omega)).2.2.2
        have huj : 0 ≤ u j ∧ u j ≤ 10 := uOk.rng hw hUs.1 (by omega)
        have hgl : 0 ≤ G.2.2.1 (u j) ∧ G.2.2.1 (u j) ≤ 4 := (hw.1.2 (u j) huj.1 huj.2).1
        have hln : ((G.2.2.1 (u j)).toNat : Int) = G.2.2.1 (u j) := by omega
        refine x_aload_n d_D_isClear_25 0 rfl rfl ?_
        refine x_getc 1 1 3 3 fl_D_16 tk_17_1 (hD.1.at 0 rfl) rfl rfl d_D_isClear_26 ?_
        refine x_iload_n d_D_isClear_29 3 rfl rfl ?_
        refine x_cva 3 (As := [vi j]) (c_AL_get 3 eU m capU hA31 j (σ (υ j)).1 (by omega) (hUs1.2.2.2 j (by omega) (by omega)).1) cs_D_131 hA31.rc rfl rfl (lr rfl) d_D_isClear_30 (lr rfl) ⟨lr rfl, lr rfl⟩ ?_
        refine x_castR (υ j) (hrj.1) rfl d_D_isClear_33 ?_
        refine x_get3N (υ j) 1 ((υ j) + 1) fl_D_153 tk_18_1 hrj.1 rfl rfl d_D_isClear_36 ?_
        refine x_len ((υ j) + 1) hrj.2.1 rfl (by decide) d_D_isClear_39 ?_
        refine V.teq (G.2.2.1 (u j)) (hln) ?_
        refine x_istore d_D_isClear_40 [some (.ref ((σ 1).1)), some (vi k), some (.ref ((σ (π k)).1)), some (vi j), some (vi (G.2.2.1 (u j))), none] rfl rfl (lr rfl) ?_
        refine x_iconst d_D_isClear_42 ?_
        refine x_istore d_D_isClear_43 [some (.ref ((σ 1).1)), some (vi k), some (.ref ((σ (π k)).1)), some (vi j), some (vi (G.2.2.1 (u j))), some (vi 0)] rfl rfl (lr rfl) ?_
        have hl2 : ∀ (mw : Nat) (t : Int) (R1 : xR), (7 - t).toNat = mw → (0 ≤ t ∧ t ≤ 7) → (∀ b, b ≠ 400 + k → R1 b = R b) → (∀ x, 7 ≤ x → R1 (400 + k) x = R (400 + k) x) → (∀ t', 0 ≤ t' → t' < 7 → iRw G a u m k j t t' (R1 (400 + k) t')) → V X m_D_isClear (4, 0, 0, Zm σ (fun z R1 => icP G a u m k R z R1)) σ R1 0 0 45 [some (.ref ((σ 1).1)), some (vi k), some (.ref ((σ (π k)).1)), some (vi j), some (vi (G.2.2.1 (u j))), some (vi t)] [] := by
          intro mw
          induction mw using Nat.strongRecOn with
          | _ mw ih2 =>
            intro t R1 hm2 ht hkp hk7 hRw
            refine x_iload d_D_isClear_45 rfl ?_
            refine x_bipush d_D_isClear_47 rfl ?_
            refine x_icmp_ge (tgt := 113) d_D_isClear_49 rfl (by omega) (by omega) (fun c49 => ?_) (fun c49 => ?_)
            · refine V.forget 4 [some (.ref ((σ 1).1)), some (vi k), some (.ref ((σ (π k)).1)), some (vi j), none, some (vi t)] rfl ?_
              refine V.forget 5 [some (.ref ((σ 1).1)), some (vi k), some (.ref ((σ (π k)).1)), some (vi j), none, none] rfl ?_
              refine x_iinc d_D_isClear_113 rfl [some (.ref ((σ 1).1)), some (vi k), some (.ref ((σ (π k)).1)), some (vi (j + 1)), none, none] rfl rfl (lr rfl) ?_
              refine x_goto (tgt := 14) d_D_isClear_116 rfl ?_
              exact ih _ (by omega) (j + 1) R1 rfl (by omega) hkp hk7 (fun t' a0 a1 => iRw.row (by have h9 := hRw t' a0 a1; rw [show t = 7 by omega] at h9; exact h9) ⟨a0, a1⟩)
            · have hz9 := zc_or (sH R1 (π k + 1) ((j * 5 + (G.2.2.1 (u j))) * 7 + t))
              refine x_aload_n d_D_isClear_52 2 rfl rfl ?_
              refine x_iload_n d_D_isClear_53 3 rfl rfl ?_
              refine x_iload d_D_isClear_54 rfl ?_
              refine x_iload d_D_isClear_56 rfl ?_
              refine x_csi  (As := [vi j, vi (G.2.2.1 (u j)), vi t]) (c_S_item j (G.2.2.1 (u j)) t) cs_D_170 rfl rfl (lr rfl) d_D_isClear_58 (lr rfl) ⟨lr rfl, lr rfl⟩ ?_
              refine x_cvi (π k) (As := [vi ((j * 5 + (G.2.2.1 (u j))) * 7 + t)]) (c_S_has (R := R1) (π k) t2 t3 ((j * 5 + (G.2.2.1 (u j))) * 7 + t) (by omega)) cs_D_179 hst rfl rfl (lr rfl) d_D_isClear_61 (lr rfl) ⟨lr rfl, lr rfl⟩ ?_
              refine x_if_ne (tgt := 70) d_D_isClear_64 rfl (by omega) (fun c64 => ?_) (fun c64 => ?_)
              · have hv9 := iRv (hRw t (by omega) (by omega)) ho ⟨hk.1, hk.2.1⟩ (by omega) hm9.2
                refine x_aload_n d_D_isClear_70 0 rfl rfl ?_
                refine x_getc 1 14 15 15 fl_D_50 tk_17_14 (hD.1.at 0 rfl) rfl rfl d_D_isClear_71 ?_
                refine x_iload_n d_D_isClear_74 1 rfl rfl ?_
                refine x_aald 15 (v := .ref ((σ (400 + k)).1)) (hD.1.at 8 rfl) rfl ⟨by decide, rfl, by decide⟩ (by omega) (row43 (by omega)) d_D_isClear_75 ?_
                refine x_iload d_D_isClear_76 rfl ?_
                refine x_sald (400 + k) (R1 (400 + k) t) (hD.2.1 (k) (by omega) (by omega)) rfl ⟨by decide, rfl, by decide⟩ rfl (by omega) rfl d_D_isClear_78 ?_
                refine x_if_eq (tgt := 84) d_D_isClear_79 rfl (by omega) (fun c79 => ?_) (fun c79 => ?_)
                · refine x_aload_n d_D_isClear_84 0 rfl rfl ?_
                  refine x_getc 1 14 15 15 fl_D_50 tk_17_14 (hD.1.at 0 rfl) rfl rfl d_D_isClear_85 ?_
                  refine x_iload_n d_D_isClear_88 1 rfl rfl ?_
                  refine x_aald 15 (v := .ref ((σ (400 + k)).1)) (hD.1.at 8 rfl) rfl ⟨by decide, rfl, by decide⟩ (by omega) (row43 (by omega)) d_D_isClear_89 ?_
                  refine x_iload d_D_isClear_90 rfl ?_
                  refine x_iload_n d_D_isClear_92 3 rfl rfl ?_
                  refine x_if_ne (tgt := 102) d_D_isClear_93 rfl (by omega) (fun c93 => ?_) (fun c93 => ?_)
                  · refine x_iconst d_D_isClear_102 ?_
                    refine x_iload_n d_D_isClear_103 3 rfl rfl ?_
                    refine x_isub d_D_isClear_104 ?_
                    refine x_i2s d_D_isClear_105 ((-1) - j) (i2s_of (by omega)) ?_
                    refine x_sast (400 + k) (hD.2.1 (k) (by omega) (by omega)) rfl ⟨by decide, rfl, by decide⟩ rfl (by omega) (nars (by omega)) d_D_isClear_106 (fun Q1 hQ1 => ?_)
                    refine x_iinc d_D_isClear_107 rfl [some (.ref ((σ 1).1)), some (vi k), some (.ref ((σ (π k)).1)), some (vi j), some (vi (G.2.2.1 (u j))), some (vi (t + 1))] rfl rfl (lr rfl) ?_
                    refine x_goto (tgt := 45) d_D_isClear_110 rfl ?_
                    exact ih2 _ (by omega) (t + 1) Q1 rfl (by omega) (fun b hb => by rw [← hkp b hb]; funext i; exact xr_o hQ1 hb) (fun x hx => by rw [← hk7 x hx]; exact xr_d hQ1 (by omega)) (fun t' a0 a1 => by
                      by_cases et : t' = t
                      · rw [et, xr_s hQ1]
                        refine iRw.yes (by have h9 := hRw t (by omega) (by omega); rw [show R1 (400 + k) t = 0 by omega] at h9; exact h9) (by omega) ((hin R1 hkp j t (by omega) (by omega) (by omega) (by omega) hgl).mp (zc_ne.mp (by omega))) ?_
                        first | (rw [if_pos (by omega)]) | (rw [if_neg (by omega)])
                      · rw [xr_d hQ1 et]
                        exact (hRw t' a0 a1).oth et)
                  · refine x_sipush d_D_isClear_96 rfl ?_
                    refine x_goto (tgt := 105) d_D_isClear_99 rfl ?_
                    refine x_i2s d_D_isClear_105 1000 (i2s_of (by omega)) ?_
                    refine x_sast (400 + k) (hD.2.1 (k) (by omega) (by omega)) rfl ⟨by decide, rfl, by decide⟩ rfl (by omega) (nars (by omega)) d_D_isClear_106 (fun Q2 hQ2 => ?_)
                    refine x_iinc d_D_isClear_107 rfl [some (.ref ((σ 1).1)), some (vi k), some (.ref ((σ (π k)).1)), some (vi j), some (vi (G.2.2.1 (u j))), some (vi (t + 1))] rfl rfl (lr rfl) ?_
                    refine x_goto (tgt := 45) d_D_isClear_110 rfl ?_
                    exact ih2 _ (by omega) (t + 1) Q2 rfl (by omega) (fun b hb => by rw [← hkp b hb]; funext i; exact xr_o hQ2 hb) (fun x hx => by rw [← hk7 x hx]; exact xr_d hQ2 (by omega)) (fun t' a0 a1 => by
                      by_cases et : t' = t
                      · rw [et, xr_s hQ2]
                        refine iRw.yes (by have h9 := hRw t (by omega) (by omega); rw [show R1 (400 + k) t = 0 by omega] at h9; exact h9) (by omega) ((hin R1 hkp j t (by omega) (by omega) (by omega) (by omega) hgl).mp (zc_ne.mp (by omega))) ?_
                        first | (rw [if_pos (by omega)]) | (rw [if_neg (by omega)])
                      · rw [xr_d hQ2 et]
                        exact (hRw t' a0 a1).oth et)
                · refine x_iconst d_D_isClear_82 ?_
                  exact x_zret d_D_isClear_83 rfl (narz (by omega)) (lr rfl) (lr rfl) (⟨_, rfl, rfl, hkp, hk7, Or.inl ⟨rfl, iRw.bad hUs.1 ho ⟨hk.1, hk.2.1⟩ (by omega) (hRw t (by omega) (by omega)) (by omega) ((hin R1 hkp j t (by omega) (by omega) (by omega) (by omega) hgl).mp (zc_ne.mp (by omega))) (by omega)⟩⟩)
              · refine x_goto (tgt := 107) d_D_isClear_67 rfl ?_
                refine x_iinc d_D_isClear_107 rfl [some (.ref ((σ 1).1)), some (vi k), some (.ref ((σ (π k)).1)), some (vi j), some (vi (G.2.2.1 (u j))), some (vi (t + 1))] rfl rfl (lr rfl) ?_
                refine x_goto (tgt := 45) d_D_isClear_110 rfl ?_
                exact ih2 _ (by omega) (t + 1) R1 rfl (by omega) hkp hk7 (fun t' a0 a1 => (hRw t' a0 a1).no (fun q => by have := zc_t ((hin R1 hkp j t (by omega) (by omega) (by omega) (by omega) hgl).mpr q); omega))
        exact hl2 _ 0 R1 rfl (by omega) hkp hk7 hRw
  refine x_aload_n d_D_isClear_0 0 rfl rfl ?_
  refine x_getc 1 9 4 4 fl_D_45 tk_17_9 (hD.1.at 0 rfl) rfl rfl d_D_isClear_1 ?_
  refine x_iload_n d_D_isClear_4 1 rfl rfl ?_
  refine x_cva 4 (As := [vi k]) (c_AL_get 4 e n cap hA4 k (σ (π k)).1 (by omega) t1) cs_D_131 hA4.rc rfl rfl (lr rfl) d_D_isClear_5 (lr rfl) ⟨lr rfl, lr rfl⟩ ?_
  refine x_castS (π k) (t2) rfl d_D_isClear_8 ?_
  refine x_astore_n d_D_isClear_11 2 rfl [some (.ref ((σ 1).1)), some (vi k), some (.ref ((σ (π k)).1)), none, none, none] rfl rfl (lr rfl) ?_
  refine x_iconst d_D_isClear_12 ?_
  refine x_istore_n d_D_isClear_13 3 rfl [some (.ref ((σ 1).1)), some (vi k), some (.ref ((σ (π k)).1)), some (vi 0), none, none] rfl rfl (lr rfl) ?_
  exact hl _ 0 R rfl (by omega) (fun _ _ => rfl) (fun _ _ => rfl) (fun t a0 a1 => by rw [hrow t a0 a1]; exact iRw.zero ho ⟨hk.1, hk.2.1⟩ ⟨a0, a1⟩)
