/-! the model: what comes of names (walks printed by gen/model2.py) -/
/-- the right side's places from k on: names that may be empty -/
def mE (R : xR) (j : Int) : Prop := 6 ≤ R 37 j ∧ R 40 (R 37 j - 6) ≠ 0
/-- the model's tables are in range for rule r -/
def mOk (R : xR) (r : Int) : Prop := (0 ≤ r ∧ r ≤ 10) ∧ (0 ≤ R 36 r ∧ R 36 r ≤ 4) ∧ (∀ k, 4 * r ≤ k → k < 4 * r + R 36 r → 0 ≤ R 37 k ∧ R 37 k ≤ 11) ∧ ∀ x, 0 ≤ x → x ≤ 5 → (R 40 x = 0 ∨ R 40 x = 1) ∧ s7 (R 41 x)
set_option maxHeartbeats 4000000 in
set_option maxRecDepth 100000 in
theorem c_P_isEmpty {σ : xS} {R : xR} (hM : xsh σ mshape) (r fr : Int) (hr : mOk R r) (hf : 0 ≤ fr ∧ fr ≤ 5) : Ct m_P_isEmpty 1 0 0 [.ref (σ 30).1, vi r, vi fr] σ R (Zi σ R (zc (∀ j, 4 * r + fr ≤ j → j < 4 * r + R 36 r → mE R j))) := by
  refine Ct.of [some (.ref ((σ 30).1)), some (vi r), some (vi fr), none, none] rfl (by decide +kernel) (lr rfl) (fun X => ?_)
  obtain ⟨hr1, hr2, hr3, hr4⟩ := hr
  have hl : ∀ (m : Nat) (k : Int) (i : Int), (4 * r + R 36 r + 6 - k).toNat = m → (4 * r + fr ≤ k ∧ (k ≤ 4 * r + R 36 r ∨ k = 4 * r + fr)) → (i = zc (∀ j, 4 * r + fr ≤ j → j < k → mE R j)) → V X m_P_isEmpty (1, 0, 0, Zi σ R (zc (∀ j, 4 * r + fr ≤ j → j < 4 * r + R 36 r → mE R j))) σ R 0 0 9 [some (.ref ((σ 30).1)), some (vi r), some (vi fr), some (vi i), some (vi k)] [] := by
    intro m
    induction m using Nat.strongRecOn with
    | _ m ih =>
      intro k i hm hk1 hi1
      refine x_iload d_P_isEmpty_9 rfl ?_
      refine x_iconst d_P_isEmpty_11 ?_
      refine x_iload_n d_P_isEmpty_12 1 rfl rfl ?_
      refine x_imul d_P_isEmpty_13 ?_
      refine x_aload_n d_P_isEmpty_14 0 rfl rfl ?_
      refine x_getc 30 5 36 36 fl_P_17 tk_23_5 (hM.at 0 rfl) rfl rfl d_P_isEmpty_15 ?_
      refine x_iload_n d_P_isEmpty_18 1 rfl rfl ?_
      refine x_iald 36 (R 36 r) (hM.at 3 rfl) rfl ⟨by decide, rfl, by decide⟩ rfl (by omega) rfl d_P_isEmpty_19 ?_
      refine x_iadd d_P_isEmpty_20 ?_
      refine x_icmp_ge (tgt := 70) d_P_isEmpty_21 rfl (by omega) (by omega) (fun c21 => ?_) (fun c21 => ?_)
      · refine x_iload_n d_P_isEmpty_70 3 rfl rfl ?_
        exact x_zret d_P_isEmpty_71 rfl (narz (by rw [hi1]; exact zc_or _)) (lr rfl) (lr rfl) (⟨by rw [hi1, zc_iff (show (∀ j, 4 * r + fr ≤ j → j < k → mE R j) ↔ (∀ j, 4 * r + fr ≤ j → j < 4 * r + R 36 r → mE R j) from ⟨fun h j h1 h2 => h j h1 (by omega), fun h j h1 h2 => h j h1 (by omega)⟩)], rfl, rfl⟩)
      · refine x_iload_n d_P_isEmpty_24 3 rfl rfl ?_
        refine x_if_eq (tgt := 62) d_P_isEmpty_25 rfl (by have := zc_or (∀ j, 4 * r + fr ≤ j → j < k → mE R j); rw [← hi1] at this; omega) (fun c25 => ?_) (fun c25 => ?_)
        · refine x_iconst d_P_isEmpty_62 ?_
          refine x_istore_n d_P_isEmpty_63 3 rfl [some (.ref ((σ 30).1)), some (vi r), some (vi fr), some (vi 0), some (vi k)] rfl rfl (lr rfl) ?_
          refine x_iinc d_P_isEmpty_64 rfl [some (.ref ((σ 30).1)), some (vi r), some (vi fr), some (vi 0), some (vi (k + 1))] rfl rfl (lr rfl) ?_
          refine x_goto (tgt := 9) d_P_isEmpty_67 rfl ?_
          have hq : 0 = zc (∀ j, 4 * r + fr ≤ j → j < k + 1 → mE R j) := by
            first | exact zca_0 hi1 (by omega) | exact zca_f hk1.1 (fun q => by have := q.1; omega) | exact zca_f hk1.1 (fun q => q.2 (by assumption)) | exact zca_t hi1 (by omega) ⟨by omega, by assumption⟩
          exact ih _ (by omega) (k + 1) 0 rfl (by omega) hq
        · have hk9 := hr3 k (by omega) (by omega)
          refine x_aload_n d_P_isEmpty_28 0 rfl rfl ?_
          refine x_getc 30 6 37 37 fl_P_20 tk_23_6 (hM.at 0 rfl) rfl rfl d_P_isEmpty_29 ?_
          refine x_iload d_P_isEmpty_32 rfl ?_
          refine x_iald 37 (R 37 k) (hM.at 4 rfl) rfl ⟨by decide, rfl, by decide⟩ rfl (by omega) rfl d_P_isEmpty_34 ?_
          refine x_bipush d_P_isEmpty_35 rfl ?_
          refine x_icmp_lt (tgt := 62) d_P_isEmpty_37 rfl (by omega) (by omega) (fun c37 => ?_) (fun c37 => ?_)
          · refine x_iconst d_P_isEmpty_62 ?_
            refine x_istore_n d_P_isEmpty_63 3 rfl [some (.ref ((σ 30).1)), some (vi r), some (vi fr), some (vi 0), some (vi k)] rfl rfl (lr rfl) ?_
            refine x_iinc d_P_isEmpty_64 rfl [some (.ref ((σ 30).1)), some (vi r), some (vi fr), some (vi 0), some (vi (k + 1))] rfl rfl (lr rfl) ?_
            refine x_goto (tgt := 9) d_P_isEmpty_67 rfl ?_
            have hq : 0 = zc (∀ j, 4 * r + fr ≤ j → j < k + 1 → mE R j) := by
              first | exact zca_0 hi1 (by omega) | exact zca_f hk1.1 (fun q => by have := q.1; omega) | exact zca_f hk1.1 (fun q => q.2 (by assumption)) | exact zca_t hi1 (by omega) ⟨by omega, by assumption⟩
            exact ih _ (by omega) (k + 1) 0 rfl (by omega) hq
          · have hx9 := hr4 (R 37 k - 6) (by omega) (by omega)
            refine x_aload_n d_P_isEmpty_40 0 rfl rfl ?_
            refine x_getc 30 9 40 40 fl_P_30 tk_23_9 (hM.at 0 rfl) rfl rfl d_P_isEmpty_41 ?_
            refine x_aload_n d_P_isEmpty_44 0 rfl rfl ?_
            refine x_getc 30 6 37 37 fl_P_20 tk_23_6 (hM.at 0 rfl) rfl rfl d_P_isEmpty_45 ?_
            refine x_iload d_P_isEmpty_48 rfl ?_
            refine x_iald 37 (R 37 k) (hM.at 4 rfl) rfl ⟨by decide, rfl, by decide⟩ rfl (by omega) rfl d_P_isEmpty_50 ?_
            refine x_bipush d_P_isEmpty_51 rfl ?_
            refine x_isub d_P_isEmpty_53 ?_
            refine x_zald 40 (R 40 ((R 37 k) - 6)) (hM.at 7 rfl) rfl ⟨by decide, rfl, by decide⟩ rfl (by omega) rfl d_P_isEmpty_54 ?_
            refine x_if_eq (tgt := 62) d_P_isEmpty_55 rfl (by omega) (fun c55 => ?_) (fun c55 => ?_)
            · refine x_iconst d_P_isEmpty_62 ?_
              refine x_istore_n d_P_isEmpty_63 3 rfl [some (.ref ((σ 30).1)), some (vi r), some (vi fr), some (vi 0), some (vi k)] rfl rfl (lr rfl) ?_
              refine x_iinc d_P_isEmpty_64 rfl [some (.ref ((σ 30).1)), some (vi r), some (vi fr), some (vi 0), some (vi (k + 1))] rfl rfl (lr rfl) ?_
              refine x_goto (tgt := 9) d_P_isEmpty_67 rfl ?_
              have hq : 0 = zc (∀ j, 4 * r + fr ≤ j → j < k + 1 → mE R j) := by
                first | exact zca_0 hi1 (by omega) | exact zca_f hk1.1 (fun q => by have := q.1; omega) | exact zca_f hk1.1 (fun q => q.2 (by assumption)) | exact zca_t hi1 (by omega) ⟨by omega, by assumption⟩
              exact ih _ (by omega) (k + 1) 0 rfl (by omega) hq
            · refine x_iconst d_P_isEmpty_58 ?_
              refine x_goto (tgt := 63) d_P_isEmpty_59 rfl ?_
              refine x_istore_n d_P_isEmpty_63 3 rfl [some (.ref ((σ 30).1)), some (vi r), some (vi fr), some (vi 1), some (vi k)] rfl rfl (lr rfl) ?_
              refine x_iinc d_P_isEmpty_64 rfl [some (.ref ((σ 30).1)), some (vi r), some (vi fr), some (vi 1), some (vi (k + 1))] rfl rfl (lr rfl) ?_
              refine x_goto (tgt := 9) d_P_isEmpty_67 rfl ?_
              have hq : 1 = zc (∀ j, 4 * r + fr ≤ j → j < k + 1 → mE R j) := by
                first | exact zca_0 hi1 (by omega) | exact zca_f hk1.1 (fun q => by have := q.1; omega) | exact zca_f hk1.1 (fun q => q.2 (by assumption)) | exact zca_t hi1 (by omega) ⟨by omega, by assumption⟩
              exact ih _ (by omega) (k + 1) 1 rfl (by omega) hq
  refine x_iconst d_P_isEmpty_0 ?_
  refine x_istore_n d_P_isEmpty_1 3 rfl [some (.ref ((σ 30).1)), some (vi r), some (vi fr), some (vi 1), none] rfl rfl (lr rfl) ?_
  refine x_iconst d_P_isEmpty_2 ?_
  refine x_iload_n d_P_isEmpty_3 1 rfl rfl ?_
  refine x_imul d_P_isEmpty_4 ?_
  refine x_iload_n d_P_isEmpty_5 2 rfl rfl ?_
  refine x_iadd d_P_isEmpty_6 ?_
  refine x_istore d_P_isEmpty_7 [some (.ref ((σ 30).1)), some (vi r), some (vi fr), some (vi 1), some (vi ((4 * r) + fr))] rfl rfl (lr rfl) ?_
  exact hl _ (4 * r + fr) 1 rfl (by omega) (zca_e (Int.le_refl _))
/-- what rows from place k on begin with (f places are left), and what is behind -/
def bgs (R : xR) (beh : Int) : Nat → Int → Int
  | 0, _ => beh
  | f + 1, k => if R 37 k < 6 then p2 (R 37 k) else if R 40 (R 37 k - 6) = 0 then R 41 (R 37 k - 6) else ior (R 41 (R 37 k - 6)) (bgs R beh f (k + 1))
theorem bgs_s7 {R : xR} {beh : Int} (hb : s7 beh) : ∀ (f : Nat) (k : Int), (∀ j, k ≤ j → j < k + f → 0 ≤ R 37 j ∧ R 37 j ≤ 11) → (∀ x, 0 ≤ x → x ≤ 5 → s7 (R 41 x)) → s7 (bgs R beh f k) := by
  intro f
  induction f with
  | zero => intro k _ _; exact hb
  | succ f ih =>
    intro k h1 h2
    have h3 := h1 k (by omega) (by omega)
    unfold bgs
    by_cases c1 : R 37 k < 6
    · rw [if_pos c1]; exact p2_s7 (by omega)
    · rw [if_neg c1]
      have h4 := h2 (R 37 k - 6) (by omega) (by omega)
      by_cases c2 : R 40 (R 37 k - 6) = 0
      · rw [if_pos c2]; exact h4
      · rw [if_neg c2]; exact ior_s7 h4 (ih (k + 1) (fun j a b => h1 j (by omega) (by omega)) h2)
set_option maxHeartbeats 4000000 in
set_option maxRecDepth 100000 in
theorem c_P_begins {σ : xS} {R : xR} (hM : xsh σ mshape) (r fr beh : Int) (hr : mOk R r) (hf : 0 ≤ fr ∧ fr ≤ 5) (hbe : s7 beh) : Ct m_P_begins 1 0 0 [.ref (σ 30).1, vi r, vi fr, vi beh] σ R (Zi σ R (bgs R beh (4 * r + R 36 r - (4 * r + fr)).toNat (4 * r + fr))) := by
  refine Ct.of [some (.ref ((σ 30).1)), some (vi r), some (vi fr), some (vi beh), none, none, none] rfl (by decide +kernel) (lr rfl) (fun X => ?_)
  obtain ⟨hr1, hr2, hr3, hr4⟩ := hr
  have hl : ∀ (m : Nat) (k : Int) (acc : Int), (4 * r + R 36 r + 6 - k).toNat = m → (4 * r + fr ≤ k ∧ (k ≤ 4 * r + R 36 r ∨ k = 4 * r + fr)) → (s7 acc) → (ior acc (bgs R beh (4 * r + R 36 r - k).toNat k) = bgs R beh (4 * r + R 36 r - (4 * r + fr)).toNat (4 * r + fr)) → V X m_P_begins (1, 0, 0, Zi σ R (bgs R beh (4 * r + R 36 r - (4 * r + fr)).toNat (4 * r + fr))) σ R 0 0 10 [some (.ref ((σ 30).1)), some (vi r), some (vi fr), some (vi beh), some (vi acc), some (vi k), none] [] := by
    intro m
    induction m using Nat.strongRecOn with
    | _ m ih =>
      intro k acc hm hk1 hs1 hacc
      refine x_iload d_P_begins_10 rfl ?_
      refine x_iconst d_P_begins_12 ?_
      refine x_iload_n d_P_begins_13 1 rfl rfl ?_
      refine x_imul d_P_begins_14 ?_
      refine x_aload_n d_P_begins_15 0 rfl rfl ?_
      refine x_getc 30 5 36 36 fl_P_17 tk_23_5 (hM.at 0 rfl) rfl rfl d_P_begins_16 ?_
      refine x_iload_n d_P_begins_19 1 rfl rfl ?_
      refine x_iald 36 (R 36 r) (hM.at 3 rfl) rfl ⟨by decide, rfl, by decide⟩ rfl (by omega) rfl d_P_begins_20 ?_
      refine x_iadd d_P_begins_21 ?_
      refine x_icmp_ge (tgt := 92) d_P_begins_22 rfl (by omega) (by omega) (fun c22 => ?_) (fun c22 => ?_)
      · refine x_iload d_P_begins_92 rfl ?_
        refine x_iload_n d_P_begins_94 3 rfl rfl ?_
        refine x_ior d_P_begins_95 (ior acc beh) (iI_ior hs1.1 hbe.1) ?_
        exact x_iret d_P_begins_96 rfl (lr rfl) (lr rfl) (⟨by rw [← hacc, show (4 * r + R 36 r - k).toNat = 0 by omega]; rfl, rfl, rfl⟩)
      · have hk9 := hr3 k (by omega) (by omega)
        have hu : bgs R beh (4 * r + R 36 r - k).toNat k = if R 37 k < 6 then p2 (R 37 k) else if R 40 (R 37 k - 6) = 0 then R 41 (R 37 k - 6) else ior (R 41 (R 37 k - 6)) (bgs R beh (4 * r + R 36 r - (k + 1)).toNat (k + 1)) := by
          rw [show (4 * r + R 36 r - k).toNat = (4 * r + R 36 r - (k + 1)).toNat + 1 by omega]; rfl
        refine x_aload_n d_P_begins_25 0 rfl rfl ?_
        refine x_getc 30 6 37 37 fl_P_20 tk_23_6 (hM.at 0 rfl) rfl rfl d_P_begins_26 ?_
        refine x_iload d_P_begins_29 rfl ?_
        refine x_iald 37 (R 37 k) (hM.at 4 rfl) rfl ⟨by decide, rfl, by decide⟩ rfl (by omega) rfl d_P_begins_31 ?_
        refine x_istore d_P_begins_32 [some (.ref ((σ 30).1)), some (vi r), some (vi fr), some (vi beh), some (vi acc), some (vi k), some (vi (R 37 k))] rfl rfl (lr rfl) ?_
        refine x_iload d_P_begins_34 rfl ?_
        refine x_iload d_P_begins_36 rfl ?_
        refine x_bipush d_P_begins_38 rfl ?_
        refine x_icmp_ge (tgt := 50) d_P_begins_40 rfl (by omega) (by omega) (fun c40 => ?_) (fun c40 => ?_)
        · have hx9 := hr4 (R 37 k - 6) (by omega) (by omega)
          have hx8 := hx9.2.1
          refine x_aload_n d_P_begins_50 0 rfl rfl ?_
          refine x_getc 30 10 41 41 fl_P_33 tk_23_10 (hM.at 0 rfl) rfl rfl d_P_begins_51 ?_
          refine x_iload d_P_begins_54 rfl ?_
          refine x_bipush d_P_begins_56 rfl ?_
          refine x_isub d_P_begins_58 ?_
          refine x_iald 41 (R 41 ((R 37 k) - 6)) (hM.at 8 rfl) rfl ⟨by decide, rfl, by decide⟩ rfl (by omega) rfl d_P_begins_59 ?_
          refine x_ior d_P_begins_60 (ior acc (R 41 ((R 37 k) - 6))) (iI_ior hs1.1 (by first | exact (p2_s7 (by omega)).1 | exact hx8)) ?_
          refine x_istore d_P_begins_61 [some (.ref ((σ 30).1)), some (vi r), some (vi fr), some (vi beh), some (vi (ior acc (R 41 ((R 37 k) - 6)))), some (vi k), some (vi (R 37 k))] rfl rfl (lr rfl) ?_
          refine x_iload d_P_begins_63 rfl ?_
          refine x_bipush d_P_begins_65 rfl ?_
          refine x_icmp_lt (tgt := 83) d_P_begins_67 rfl (by omega) (by omega) (fun c67 => ?_) (fun c67 => ?_)
          · exact absurd c67 (by omega)
          · refine x_aload_n d_P_begins_70 0 rfl rfl ?_
            refine x_getc 30 9 40 40 fl_P_30 tk_23_9 (hM.at 0 rfl) rfl rfl d_P_begins_71 ?_
            refine x_iload d_P_begins_74 rfl ?_
            refine x_bipush d_P_begins_76 rfl ?_
            refine x_isub d_P_begins_78 ?_
            refine x_zald 40 (R 40 ((R 37 k) - 6)) (hM.at 7 rfl) rfl ⟨by decide, rfl, by decide⟩ rfl (by omega) rfl d_P_begins_79 ?_
            refine x_if_ne (tgt := 86) d_P_begins_80 rfl (by omega) (fun c80 => ?_) (fun c80 => ?_)
            · refine x_iinc d_P_begins_86 rfl [some (.ref ((σ 30).1)), some (vi r), some (vi fr), some (vi beh), some (vi (ior acc (R 41 ((R 37 k) - 6)))), some (vi (k + 1)), some (vi (R 37 k))] rfl rfl (lr rfl) ?_
              refine x_goto (tgt := 10) d_P_begins_89 rfl ?_
              refine V.forget 6 [some (.ref ((σ 30).1)), some (vi r), some (vi fr), some (vi beh), some (vi (ior acc (R 41 ((R 37 k) - 6)))), some (vi (k + 1)), none] rfl ?_
              exact ih _ (by omega) (k + 1) (ior acc (R 41 ((R 37 k) - 6))) rfl (by omega) (ior_s7 hs1 hx9.2) (by rw [hu, if_neg (by omega), if_neg (by omega)] at hacc; rw [ior_assoc]; exact hacc)
            · refine x_iload d_P_begins_83 rfl ?_
              exact x_iret d_P_begins_85 rfl (lr rfl) (lr rfl) (⟨by rw [← hacc, hu, if_neg (by omega), if_pos (by omega)], rfl, rfl⟩)
        · refine x_iconst d_P_begins_43 ?_
          refine x_iload d_P_begins_44 rfl ?_
          refine x_ishl d_P_begins_46 (p2 (R 37 k)) (iI_shl1 (by omega)) ?_
          refine x_goto (tgt := 60) d_P_begins_47 rfl ?_
          refine x_ior d_P_begins_60 (ior acc (p2 (R 37 k))) (iI_ior hs1.1 (by first | exact (p2_s7 (by omega)).1 | exact hx8)) ?_
          refine x_istore d_P_begins_61 [some (.ref ((σ 30).1)), some (vi r), some (vi fr), some (vi beh), some (vi (ior acc (p2 (R 37 k)))), some (vi k), some (vi (R 37 k))] rfl rfl (lr rfl) ?_
          refine x_iload d_P_begins_63 rfl ?_
          refine x_bipush d_P_begins_65 rfl ?_
          refine x_icmp_lt (tgt := 83) d_P_begins_67 rfl (by omega) (by omega) (fun c67 => ?_) (fun c67 => ?_)
          · refine x_iload d_P_begins_83 rfl ?_
            exact x_iret d_P_begins_85 rfl (lr rfl) (lr rfl) (⟨by rw [← hacc, hu, if_pos (by omega)], rfl, rfl⟩)
          · exact absurd (by omega) c67
  refine x_iconst d_P_begins_0 ?_
  refine x_istore d_P_begins_1 [some (.ref ((σ 30).1)), some (vi r), some (vi fr), some (vi beh), some (vi 0), none, none] rfl rfl (lr rfl) ?_
  refine x_iconst d_P_begins_3 ?_
  refine x_iload_n d_P_begins_4 1 rfl rfl ?_
  refine x_imul d_P_begins_5 ?_
  refine x_iload_n d_P_begins_6 2 rfl rfl ?_
  refine x_iadd d_P_begins_7 ?_
  refine x_istore d_P_begins_8 [some (.ref ((σ 30).1)), some (vi r), some (vi fr), some (vi beh), some (vi 0), some (vi ((4 * r) + fr)), none] rfl rfl (lr rfl) ?_
  exact hl _ (4 * r + fr) 0 rfl (by omega) ⟨by omega, by omega⟩ (ior_0 (bgs_s7 hbe _ _ (fun j h1 h2 => hr3 j (by omega) (by omega)) (fun x h1 h2 => (hr4 x h1 h2).2)).1)
