/-! the desk: isLiving, empty, firsts (walks printed by gen/desk2.py) -/
/-- a symbol, as the desk numbers it -/
def dy (s : Int) : Int := if s < 6 then s else s + 1
theorem dy_cs (s : Int) : (s < 6 ∧ dy s = s) ∨ (6 ≤ s ∧ dy s = s + 1) := by
  unfold dy
  by_cases h : s < 6
  · exact Or.inl ⟨h, if_pos h⟩
  · exact Or.inr ⟨by omega, if_neg h⟩
/-- the rule at region k: left side l, n symbols s -/
def rlI (σ : xS) (R : xR) (k l : Int) (n : Nat) (s : Int → Int) : Prop := (σ k).2 = (18, 0) ∧ (σ (k + 1)).2 = (32, n) ∧ n ≤ 4 ∧ R k 0 = 7 + l ∧ (0 ≤ l ∧ l ≤ 6) ∧ ∀ i, 0 ≤ i → i < (n : Int) → R (k + 1) i = dy (s i) ∧ 0 ≤ s i ∧ s i ≤ 11
/-- what the desk knows of names is in range -/
def dNm (R : xR) : Prop := ∀ x, 0 ≤ x → x ≤ 5 → (R 12 x = 0 ∨ R 12 x = 1) ∧ (R 13 x = 0 ∨ R 13 x = 1) ∧ s7 (R 14 x)
def dL (R : xR) (s : Int → Int) (i : Int) : Prop := s i < 6 ∨ R 12 (s i - 6) ≠ 0
def dE (R : xR) (s : Int → Int) (i : Int) : Prop := 6 ≤ s i ∧ R 13 (s i - 6) ≠ 0
/-- the letters with which rows from place fr on begin -/
def dF (R : xR) (s : Int → Int) (fr n t : Int) : Prop := ∃ j, fr ≤ j ∧ j < n ∧ (∀ i, fr ≤ i → i < j → dE R s i) ∧ ((s j < 6 ∧ t = s j) ∨ (6 ≤ s j ∧ hb (R 14 (s j - 6)) t))
def Zr (σ : xS) (R : xR) (P : Int → Prop) : xZ := fun o σ' R' => ∃ z, o = .returned (some (vi z)) ∧ σ' = σ ∧ R' = R ∧ P z
set_option maxHeartbeats 4000000 in
set_option maxRecDepth 100000 in
theorem c_D_isLiving {σ : xS} {R : xR} (hD : dSh σ) (k l : Int) (n : Nat) (s : Int → Int) (hr : rlI σ R k l n s) (hN : dNm R) : Ct m_D_isLiving 1 0 0 [.ref (σ 1).1, .ref (σ k).1] σ R (Zi σ R (zc (∀ j, 0 ≤ j → j < (n : Int) → dL R s j))) := by
  refine Ct.of [some (.ref ((σ 1).1)), some (.ref ((σ k).1)), none, none] rfl (by decide +kernel) (lr rfl) (fun X => ?_)
  obtain ⟨hr1, hr2, hr3, hr4, hr5, hr6⟩ := hr
  have hl : ∀ (m : Nat) (i : Int) (g : Int), ((n : Int) - i).toNat = m → (0 ≤ i ∧ i ≤ (n : Int)) → (g = zc (∀ j, 0 ≤ j → j < i → dL R s j)) → V X m_D_isLiving (1, 0, 0, Zi σ R (zc (∀ j, 0 ≤ j → j < (n : Int) → dL R s j))) σ R 0 0 4 [some (.ref ((σ 1).1)), some (.ref ((σ k).1)), some (vi g), some (vi i)] [] := by
    intro m
    induction m using Nat.strongRecOn with
    | _ m ih =>
      intro i g hm hk1 hi1
      refine x_iload_n d_D_isLiving_4 3 rfl rfl ?_
      refine x_aload_n d_D_isLiving_5 1 rfl rfl ?_
      refine x_get3N k 1 (k + 1) fl_D_153 tk_18_1 hr1 rfl rfl d_D_isLiving_6 ?_
      refine x_len (k + 1) hr2 rfl (by decide) d_D_isLiving_9 ?_
      refine V.teq (n : Int) (rfl) ?_
      refine x_icmp_ge (tgt := 57) d_D_isLiving_10 rfl (by omega) (by omega) (fun c10 => ?_) (fun c10 => ?_)
      · refine x_iload_n d_D_isLiving_57 2 rfl rfl ?_
        exact x_zret d_D_isLiving_58 rfl (narz (by rw [hi1]; exact zc_or _)) (lr rfl) (lr rfl) (⟨by rw [hi1, show i = (n : Int) by omega], rfl, rfl⟩)
      · refine x_iload_n d_D_isLiving_13 2 rfl rfl ?_
        refine x_if_eq (tgt := 49) d_D_isLiving_14 rfl (by have := zc_or (∀ j, 0 ≤ j → j < i → dL R s j); rw [← hi1] at this; omega) (fun c14 => ?_) (fun c14 => ?_)
        · refine x_iconst d_D_isLiving_49 ?_
          refine x_istore_n d_D_isLiving_50 2 rfl [some (.ref ((σ 1).1)), some (.ref ((σ k).1)), some (vi 0), some (vi i)] rfl rfl (lr rfl) ?_
          refine x_iinc d_D_isLiving_51 rfl [some (.ref ((σ 1).1)), some (.ref ((σ k).1)), some (vi 0), some (vi (i + 1))] rfl rfl (lr rfl) ?_
          refine x_goto (tgt := 4) d_D_isLiving_54 rfl ?_
          have hq : 0 = zc (∀ j, 0 ≤ j → j < i + 1 → dL R s j) := by
            first | exact zca_0 hi1 (by omega) | exact zca_f hk1.1 (fun q => by rcases q with q | q; (omega); (exact q (by assumption))) | exact zca_t hi1 (by omega) (Or.inl (by omega)) | exact zca_t hi1 (by omega) (Or.inr (by assumption))
          exact ih _ (by omega) (i + 1) 0 rfl (by omega) hq
        · have hy9 := dy_cs (s i)
          have hs9 := hr6 i (by omega) (by omega)
          refine x_aload_n d_D_isLiving_17 1 rfl rfl ?_
          refine x_get3N k 1 (k + 1) fl_D_153 tk_18_1 hr1 rfl rfl d_D_isLiving_18 ?_
          refine x_iload_n d_D_isLiving_21 3 rfl rfl ?_
          refine x_iald (k + 1) (dy (s i)) hr2 rfl ⟨by decide, rfl, by omega⟩ rfl (by omega) ((hr6 i (by omega) (by omega)).1) d_D_isLiving_22 ?_
          refine x_bipush d_D_isLiving_23 rfl ?_
          refine x_icmp_lt (tgt := 45) d_D_isLiving_25 rfl (by omega) (by omega) (fun c25 => ?_) (fun c25 => ?_)
          · refine x_iconst d_D_isLiving_45 ?_
            refine x_goto (tgt := 50) d_D_isLiving_46 rfl ?_
            refine x_istore_n d_D_isLiving_50 2 rfl [some (.ref ((σ 1).1)), some (.ref ((σ k).1)), some (vi 1), some (vi i)] rfl rfl (lr rfl) ?_
            refine x_iinc d_D_isLiving_51 rfl [some (.ref ((σ 1).1)), some (.ref ((σ k).1)), some (vi 1), some (vi (i + 1))] rfl rfl (lr rfl) ?_
            refine x_goto (tgt := 4) d_D_isLiving_54 rfl ?_
            have hq : 1 = zc (∀ j, 0 ≤ j → j < i + 1 → dL R s j) := by
              first | exact zca_0 hi1 (by omega) | exact zca_f hk1.1 (fun q => by rcases q with q | q; (omega); (exact q (by assumption))) | exact zca_t hi1 (by omega) (Or.inl (by omega)) | exact zca_t hi1 (by omega) (Or.inr (by assumption))
            exact ih _ (by omega) (i + 1) 1 rfl (by omega) hq
          · have hN9 := hN (s i - 6) (by omega) (by omega)
            refine x_aload_n d_D_isLiving_28 0 rfl rfl ?_
            refine x_getc 1 6 12 12 fl_D_35 tk_17_6 (hD.1.at 0 rfl) rfl rfl d_D_isLiving_29 ?_
            refine x_aload_n d_D_isLiving_32 1 rfl rfl ?_
            refine x_get3N k 1 (k + 1) fl_D_153 tk_18_1 hr1 rfl rfl d_D_isLiving_33 ?_
            refine x_iload_n d_D_isLiving_36 3 rfl rfl ?_
            refine x_iald (k + 1) (dy (s i)) hr2 rfl ⟨by decide, rfl, by omega⟩ rfl (by omega) ((hr6 i (by omega) (by omega)).1) d_D_isLiving_37 ?_
            refine x_bipush d_D_isLiving_38 rfl ?_
            refine x_isub d_D_isLiving_40 ?_
            refine x_zald 12 (R 12 (s i - 6)) (hD.1.at 5 rfl) rfl ⟨by decide, rfl, by decide⟩ rfl (by omega) (by rw [show dy (s i) - 7 = s i - 6 by omega]) d_D_isLiving_41 ?_
            refine x_if_eq (tgt := 49) d_D_isLiving_42 rfl (by omega) (fun c42 => ?_) (fun c42 => ?_)
            · refine x_iconst d_D_isLiving_49 ?_
              refine x_istore_n d_D_isLiving_50 2 rfl [some (.ref ((σ 1).1)), some (.ref ((σ k).1)), some (vi 0), some (vi i)] rfl rfl (lr rfl) ?_
              refine x_iinc d_D_isLiving_51 rfl [some (.ref ((σ 1).1)), some (.ref ((σ k).1)), some (vi 0), some (vi (i + 1))] rfl rfl (lr rfl) ?_
              refine x_goto (tgt := 4) d_D_isLiving_54 rfl ?_
              have hq : 0 = zc (∀ j, 0 ≤ j → j < i + 1 → dL R s j) := by
                first | exact zca_0 hi1 (by omega) | exact zca_f hk1.1 (fun q => by rcases q with q | q; (omega); (exact q (by assumption))) | exact zca_t hi1 (by omega) (Or.inl (by omega)) | exact zca_t hi1 (by omega) (Or.inr (by assumption))
              exact ih _ (by omega) (i + 1) 0 rfl (by omega) hq
            · refine x_iconst d_D_isLiving_45 ?_
              refine x_goto (tgt := 50) d_D_isLiving_46 rfl ?_
              refine x_istore_n d_D_isLiving_50 2 rfl [some (.ref ((σ 1).1)), some (.ref ((σ k).1)), some (vi 1), some (vi i)] rfl rfl (lr rfl) ?_
              refine x_iinc d_D_isLiving_51 rfl [some (.ref ((σ 1).1)), some (.ref ((σ k).1)), some (vi 1), some (vi (i + 1))] rfl rfl (lr rfl) ?_
              refine x_goto (tgt := 4) d_D_isLiving_54 rfl ?_
              have hq : 1 = zc (∀ j, 0 ≤ j → j < i + 1 → dL R s j) := by
                first | exact zca_0 hi1 (by omega) | exact zca_f hk1.1 (fun q => by rcases q with q | q; (omega); (exact q (by assumption))) | exact zca_t hi1 (by omega) (Or.inl (by omega)) | exact zca_t hi1 (by omega) (Or.inr (by assumption))
              exact ih _ (by omega) (i + 1) 1 rfl (by omega) hq
  refine x_iconst d_D_isLiving_0 ?_
  refine x_istore_n d_D_isLiving_1 2 rfl [some (.ref ((σ 1).1)), some (.ref ((σ k).1)), some (vi 1), none] rfl rfl (lr rfl) ?_
  refine x_iconst d_D_isLiving_2 ?_
  refine x_istore_n d_D_isLiving_3 3 rfl [some (.ref ((σ 1).1)), some (.ref ((σ k).1)), some (vi 1), some (vi 0)] rfl rfl (lr rfl) ?_
  exact hl _ 0 1 rfl (by omega) (zca_e (Int.le_refl _))
set_option maxHeartbeats 4000000 in
set_option maxRecDepth 100000 in
theorem c_D_empty {σ : xS} {R : xR} (hD : dSh σ) (k l : Int) (n : Nat) (s : Int → Int) (hr : rlI σ R k l n s) (hN : dNm R) (fr : Int) (hf : 0 ≤ fr ∧ fr ≤ 5) : Ct m_D_empty 1 0 0 [.ref (σ 1).1, .ref (σ k).1, vi fr] σ R (Zi σ R (zc (∀ j, fr ≤ j → j < (n : Int) → dE R s j))) := by
  refine Ct.of [some (.ref ((σ 1).1)), some (.ref ((σ k).1)), some (vi fr), none, none] rfl (by decide +kernel) (lr rfl) (fun X => ?_)
  obtain ⟨hr1, hr2, hr3, hr4, hr5, hr6⟩ := hr
  have hl : ∀ (m : Nat) (i : Int) (g : Int), ((n : Int) + 6 - i).toNat = m → (fr ≤ i ∧ (i ≤ (n : Int) ∨ i = fr)) → (g = zc (∀ j, fr ≤ j → j < i → dE R s j)) → V X m_D_empty (1, 0, 0, Zi σ R (zc (∀ j, fr ≤ j → j < (n : Int) → dE R s j))) σ R 0 0 5 [some (.ref ((σ 1).1)), some (.ref ((σ k).1)), some (vi fr), some (vi g), some (vi i)] [] := by
    intro m
    induction m using Nat.strongRecOn with
    | _ m ih =>
      intro i g hm hk1 hi1
      refine x_iload d_D_empty_5 rfl ?_
      refine x_aload_n d_D_empty_7 1 rfl rfl ?_
      refine x_get3N k 1 (k + 1) fl_D_153 tk_18_1 hr1 rfl rfl d_D_empty_8 ?_
      refine x_len (k + 1) hr2 rfl (by decide) d_D_empty_11 ?_
      refine V.teq (n : Int) (rfl) ?_
      refine x_icmp_ge (tgt := 61) d_D_empty_12 rfl (by omega) (by omega) (fun c12 => ?_) (fun c12 => ?_)
      · refine x_iload_n d_D_empty_61 3 rfl rfl ?_
        exact x_zret d_D_empty_62 rfl (narz (by rw [hi1]; exact zc_or _)) (lr rfl) (lr rfl) (⟨by rw [hi1, zc_iff (show (∀ j, fr ≤ j → j < i → dE R s j) ↔ (∀ j, fr ≤ j → j < (n : Int) → dE R s j) from ⟨fun h j h1 h2 => h j h1 (by omega), fun h j h1 h2 => h j h1 (by omega)⟩)], rfl, rfl⟩)
      · refine x_iload_n d_D_empty_15 3 rfl rfl ?_
        refine x_if_eq (tgt := 53) d_D_empty_16 rfl (by have := zc_or (∀ j, fr ≤ j → j < i → dE R s j); rw [← hi1] at this; omega) (fun c16 => ?_) (fun c16 => ?_)
        · refine x_iconst d_D_empty_53 ?_
          refine x_istore_n d_D_empty_54 3 rfl [some (.ref ((σ 1).1)), some (.ref ((σ k).1)), some (vi fr), some (vi 0), some (vi i)] rfl rfl (lr rfl) ?_
          refine x_iinc d_D_empty_55 rfl [some (.ref ((σ 1).1)), some (.ref ((σ k).1)), some (vi fr), some (vi 0), some (vi (i + 1))] rfl rfl (lr rfl) ?_
          refine x_goto (tgt := 5) d_D_empty_58 rfl ?_
          have hq : 0 = zc (∀ j, fr ≤ j → j < i + 1 → dE R s j) := by
            first | exact zca_0 hi1 (by omega) | exact zca_f hk1.1 (fun q => by have := q.1; omega) | exact zca_f hk1.1 (fun q => q.2 (by assumption)) | exact zca_t hi1 (by omega) ⟨by omega, by assumption⟩
          exact ih _ (by omega) (i + 1) 0 rfl (by omega) hq
        · have hy9 := dy_cs (s i)
          have hs9 := hr6 i (by omega) (by omega)
          refine x_aload_n d_D_empty_19 1 rfl rfl ?_
          refine x_get3N k 1 (k + 1) fl_D_153 tk_18_1 hr1 rfl rfl d_D_empty_20 ?_
          refine x_iload d_D_empty_23 rfl ?_
          refine x_iald (k + 1) (dy (s i)) hr2 rfl ⟨by decide, rfl, by omega⟩ rfl (by omega) ((hr6 i (by omega) (by omega)).1) d_D_empty_25 ?_
          refine x_bipush d_D_empty_26 rfl ?_
          refine x_icmp_lt (tgt := 53) d_D_empty_28 rfl (by omega) (by omega) (fun c28 => ?_) (fun c28 => ?_)
          · refine x_iconst d_D_empty_53 ?_
            refine x_istore_n d_D_empty_54 3 rfl [some (.ref ((σ 1).1)), some (.ref ((σ k).1)), some (vi fr), some (vi 0), some (vi i)] rfl rfl (lr rfl) ?_
            refine x_iinc d_D_empty_55 rfl [some (.ref ((σ 1).1)), some (.ref ((σ k).1)), some (vi fr), some (vi 0), some (vi (i + 1))] rfl rfl (lr rfl) ?_
            refine x_goto (tgt := 5) d_D_empty_58 rfl ?_
            have hq : 0 = zc (∀ j, fr ≤ j → j < i + 1 → dE R s j) := by
              first | exact zca_0 hi1 (by omega) | exact zca_f hk1.1 (fun q => by have := q.1; omega) | exact zca_f hk1.1 (fun q => q.2 (by assumption)) | exact zca_t hi1 (by omega) ⟨by omega, by assumption⟩
            exact ih _ (by omega) (i + 1) 0 rfl (by omega) hq
          · have hN9 := hN (s i - 6) (by omega) (by omega)
            refine x_aload_n d_D_empty_31 0 rfl rfl ?_
            refine x_getc 1 7 13 13 fl_D_39 tk_17_7 (hD.1.at 0 rfl) rfl rfl d_D_empty_32 ?_
            refine x_aload_n d_D_empty_35 1 rfl rfl ?_
            refine x_get3N k 1 (k + 1) fl_D_153 tk_18_1 hr1 rfl rfl d_D_empty_36 ?_
            refine x_iload d_D_empty_39 rfl ?_
            refine x_iald (k + 1) (dy (s i)) hr2 rfl ⟨by decide, rfl, by omega⟩ rfl (by omega) ((hr6 i (by omega) (by omega)).1) d_D_empty_41 ?_
            refine x_bipush d_D_empty_42 rfl ?_
            refine x_isub d_D_empty_44 ?_
            refine x_zald 13 (R 13 (s i - 6)) (hD.1.at 6 rfl) rfl ⟨by decide, rfl, by decide⟩ rfl (by omega) (by rw [show dy (s i) - 7 = s i - 6 by omega]) d_D_empty_45 ?_
            refine x_if_eq (tgt := 53) d_D_empty_46 rfl (by omega) (fun c46 => ?_) (fun c46 => ?_)
            · refine x_iconst d_D_empty_53 ?_
              refine x_istore_n d_D_empty_54 3 rfl [some (.ref ((σ 1).1)), some (.ref ((σ k).1)), some (vi fr), some (vi 0), some (vi i)] rfl rfl (lr rfl) ?_
              refine x_iinc d_D_empty_55 rfl [some (.ref ((σ 1).1)), some (.ref ((σ k).1)), some (vi fr), some (vi 0), some (vi (i + 1))] rfl rfl (lr rfl) ?_
              refine x_goto (tgt := 5) d_D_empty_58 rfl ?_
              have hq : 0 = zc (∀ j, fr ≤ j → j < i + 1 → dE R s j) := by
                first | exact zca_0 hi1 (by omega) | exact zca_f hk1.1 (fun q => by have := q.1; omega) | exact zca_f hk1.1 (fun q => q.2 (by assumption)) | exact zca_t hi1 (by omega) ⟨by omega, by assumption⟩
              exact ih _ (by omega) (i + 1) 0 rfl (by omega) hq
            · refine x_iconst d_D_empty_49 ?_
              refine x_goto (tgt := 54) d_D_empty_50 rfl ?_
              refine x_istore_n d_D_empty_54 3 rfl [some (.ref ((σ 1).1)), some (.ref ((σ k).1)), some (vi fr), some (vi 1), some (vi i)] rfl rfl (lr rfl) ?_
              refine x_iinc d_D_empty_55 rfl [some (.ref ((σ 1).1)), some (.ref ((σ k).1)), some (vi fr), some (vi 1), some (vi (i + 1))] rfl rfl (lr rfl) ?_
              refine x_goto (tgt := 5) d_D_empty_58 rfl ?_
              have hq : 1 = zc (∀ j, fr ≤ j → j < i + 1 → dE R s j) := by
                first | exact zca_0 hi1 (by omega) | exact zca_f hk1.1 (fun q => by have := q.1; omega) | exact zca_f hk1.1 (fun q => q.2 (by assumption)) | exact zca_t hi1 (by omega) ⟨by omega, by assumption⟩
              exact ih _ (by omega) (i + 1) 1 rfl (by omega) hq
  refine x_iconst d_D_empty_0 ?_
  refine x_istore_n d_D_empty_1 3 rfl [some (.ref ((σ 1).1)), some (.ref ((σ k).1)), some (vi fr), some (vi 1), none] rfl rfl (lr rfl) ?_
  refine x_iload_n d_D_empty_2 2 rfl rfl ?_
  refine x_istore d_D_empty_3 [some (.ref ((σ 1).1)), some (.ref ((σ k).1)), some (vi fr), some (vi 1), some (vi fr)] rfl rfl (lr rfl) ?_
  exact hl _ fr 1 rfl (by omega) (zca_e (Int.le_refl _))
theorem dF_step {R : xR} {s : Int → Int} {fr i t : Int} (h : fr ≤ i) (hE : ∀ j, fr ≤ j → j < i → dE R s j) : dF R s fr (i + 1) t ↔ dF R s fr i t ∨ ((s i < 6 ∧ t = s i) ∨ (6 ≤ s i ∧ hb (R 14 (s i - 6)) t)) := by
  constructor
  · rintro ⟨j, a, b, c, d⟩
    by_cases e : j = i
    · rw [e] at d; exact Or.inr d
    · exact Or.inl ⟨j, a, by omega, c, d⟩
  · rintro (⟨j, a, b, c, d⟩ | d)
    · exact ⟨j, a, by omega, c, d⟩
    · exact ⟨i, h, by omega, hE, d⟩
theorem dF_stop {R : xR} {s : Int → Int} {fr i n t : Int} (hn0 : i ≤ n ∨ i = fr) (hE : ¬ ∀ j, fr ≤ j → j < i → dE R s j) : dF R s fr n t ↔ dF R s fr i t := by
  have hn : i ≤ n := by
    rcases hn0 with h | h
    · exact h
    · exact absurd (fun l l1 l2 => by omega) hE
  constructor
  · rintro ⟨j, a, b, c, d⟩
    by_cases e : j < i
    · exact ⟨j, a, e, c, d⟩
    · exact absurd (fun l l1 l2 => c l l1 (by omega)) hE
  · rintro ⟨j, a, b, c, d⟩
    exact ⟨j, a, by omega, c, d⟩
set_option maxHeartbeats 4000000 in
set_option maxRecDepth 100000 in
theorem c_D_firsts {σ : xS} {R : xR} (hD : dSh σ) (k l : Int) (n : Nat) (s : Int → Int) (hr : rlI σ R k l n s) (hN : dNm R) (fr : Int) (hf : 0 ≤ fr ∧ fr ≤ 5) : Ct m_D_firsts 1 0 0 [.ref (σ 1).1, .ref (σ k).1, vi fr] σ R (Zr σ R (fun z => s7 z ∧ ∀ t, 0 ≤ t → (hb z t ↔ dF R s fr (n : Int) t))) := by
  refine Ct.of [some (.ref ((σ 1).1)), some (.ref ((σ k).1)), some (vi fr), none, none, none, none] rfl (by decide +kernel) (lr rfl) (fun X => ?_)
  obtain ⟨hr1, hr2, hr3, hr4, hr5, hr6⟩ := hr
  have dF_end : ∀ {i t : Int}, (n : Int) ≤ i → (i ≤ (n : Int) ∨ i = fr) → (dF R s fr i t ↔ dF R s fr (n : Int) t) := by
    intro i t h1 h2
    rcases h2 with h2 | h2
    · rw [show i = (n : Int) by omega]
    · constructor
      · rintro ⟨j, a, b, -⟩; omega
      · rintro ⟨j, a, b, -⟩; omega
  have hl : ∀ (m : Nat) (i : Int) (g : Int) (acc : Int), ((n : Int) + 6 - i).toNat = m → (fr ≤ i ∧ (i ≤ (n : Int) ∨ i = fr)) → (g = zc (∀ j, fr ≤ j → j < i → dE R s j)) → (s7 acc) → (∀ t, 0 ≤ t → (hb acc t ↔ dF R s fr i t)) → V X m_D_firsts (1, 0, 0, Zr σ R (fun z => s7 z ∧ ∀ t, 0 ≤ t → (hb z t ↔ dF R s fr (n : Int) t))) σ R 0 0 8 [some (.ref ((σ 1).1)), some (.ref ((σ k).1)), some (vi fr), some (vi acc), some (vi g), some (vi i), none] [] := by
    intro m
    induction m using Nat.strongRecOn with
    | _ m ih =>
      intro i g acc hm hk1 hi1 ha7 hab
      refine x_iload d_D_firsts_8 rfl ?_
      refine x_aload_n d_D_firsts_10 1 rfl rfl ?_
      refine x_get3N k 1 (k + 1) fl_D_153 tk_18_1 hr1 rfl rfl d_D_firsts_11 ?_
      refine x_len (k + 1) hr2 rfl (by decide) d_D_firsts_14 ?_
      refine V.teq (n : Int) (rfl) ?_
      refine x_icmp_ge (tgt := 92) d_D_firsts_15 rfl (by omega) (by omega) (fun c15 => ?_) (fun c15 => ?_)
      · refine x_iload_n d_D_firsts_92 3 rfl rfl ?_
        exact x_iret d_D_firsts_93 rfl (lr rfl) (lr rfl) (⟨_, rfl, rfl, rfl, ha7, fun t t0 => by rw [hab t t0]; first | exact dF_end (by omega) hk1.2 | exact (dF_stop hk1.2 (fun q => by have := zc_t q; omega)).symm⟩)
      · refine x_iload d_D_firsts_18 rfl ?_
        refine x_if_eq (tgt := 92) d_D_firsts_20 rfl (by have := zc_or (∀ j, fr ≤ j → j < i → dE R s j); rw [← hi1] at this; omega) (fun c20 => ?_) (fun c20 => ?_)
        · refine x_iload_n d_D_firsts_92 3 rfl rfl ?_
          exact x_iret d_D_firsts_93 rfl (lr rfl) (lr rfl) (⟨_, rfl, rfl, rfl, ha7, fun t t0 => by rw [hab t t0]; first | exact dF_end (by omega) hk1.2 | exact (dF_stop hk1.2 (fun q => by have := zc_t q; omega)).symm⟩)
        · have hy9 := dy_cs (s i)
          have hs9 := hr6 i (by omega) (by omega)
          refine x_aload_n d_D_firsts_23 1 rfl rfl ?_
          refine x_get3N k 1 (k + 1) fl_D_153 tk_18_1 hr1 rfl rfl d_D_firsts_24 ?_
          refine x_iload d_D_firsts_27 rfl ?_
          refine x_iald (k + 1) (dy (s i)) hr2 rfl ⟨by decide, rfl, by omega⟩ rfl (by omega) ((hr6 i (by omega) (by omega)).1) d_D_firsts_29 ?_
          refine x_istore d_D_firsts_30 [some (.ref ((σ 1).1)), some (.ref ((σ k).1)), some (vi fr), some (vi acc), some (vi g), some (vi i), some (vi (dy (s i)))] rfl rfl (lr rfl) ?_
          refine x_iload_n d_D_firsts_32 3 rfl rfl ?_
          refine x_iload d_D_firsts_33 rfl ?_
          refine x_bipush d_D_firsts_35 rfl ?_
          refine x_icmp_ge (tgt := 47) d_D_firsts_37 rfl (by omega) (by omega) (fun c37 => ?_) (fun c37 => ?_)
          · have hN9 := hN (s i - 6) (by omega) (by omega)
            refine x_aload_n d_D_firsts_47 0 rfl rfl ?_
            refine x_getc 1 8 14 14 fl_D_42 tk_17_8 (hD.1.at 0 rfl) rfl rfl d_D_firsts_48 ?_
            refine x_iload d_D_firsts_51 rfl ?_
            refine x_bipush d_D_firsts_53 rfl ?_
            refine x_isub d_D_firsts_55 ?_
            refine x_iald 14 (R 14 (s i - 6)) (hD.1.at 7 rfl) rfl ⟨by decide, rfl, by decide⟩ rfl (by omega) (by rw [show dy (s i) - 7 = s i - 6 by omega]) d_D_firsts_56 ?_
            refine x_ior d_D_firsts_57 (ior acc (R 14 (s i - 6))) (iI_ior ha7.1 (by first | exact (p2_s7 (by omega)).1 | exact hN9.2.2.1)) ?_
            refine x_istore_n d_D_firsts_58 3 rfl [some (.ref ((σ 1).1)), some (.ref ((σ k).1)), some (vi fr), some (vi (ior acc (R 14 (s i - 6)))), some (vi g), some (vi i), some (vi (dy (s i)))] rfl rfl (lr rfl) ?_
            refine x_iload d_D_firsts_59 rfl ?_
            refine x_bipush d_D_firsts_61 rfl ?_
            refine x_icmp_lt (tgt := 83) d_D_firsts_63 rfl (by omega) (by omega) (fun c63 => ?_) (fun c63 => ?_)
            · omega
            · have hN8 := hN (s i - 6) (by omega) (by omega)
              refine x_aload_n d_D_firsts_66 0 rfl rfl ?_
              refine x_getc 1 7 13 13 fl_D_39 tk_17_7 (hD.1.at 0 rfl) rfl rfl d_D_firsts_67 ?_
              refine x_iload d_D_firsts_70 rfl ?_
              refine x_bipush d_D_firsts_72 rfl ?_
              refine x_isub d_D_firsts_74 ?_
              refine x_zald 13 (R 13 (s i - 6)) (hD.1.at 6 rfl) rfl ⟨by decide, rfl, by decide⟩ rfl (by omega) (by rw [show dy (s i) - 7 = s i - 6 by omega]) d_D_firsts_75 ?_
              refine x_if_eq (tgt := 83) d_D_firsts_76 rfl (by omega) (fun c76 => ?_) (fun c76 => ?_)
              · refine x_iconst d_D_firsts_83 ?_
                refine x_istore d_D_firsts_84 [some (.ref ((σ 1).1)), some (.ref ((σ k).1)), some (vi fr), some (vi (ior acc (R 14 (s i - 6)))), some (vi 0), some (vi i), some (vi (dy (s i)))] rfl rfl (lr rfl) ?_
                refine x_iinc d_D_firsts_86 rfl [some (.ref ((σ 1).1)), some (.ref ((σ k).1)), some (vi fr), some (vi (ior acc (R 14 (s i - 6)))), some (vi 0), some (vi (i + 1)), some (vi (dy (s i)))] rfl rfl (lr rfl) ?_
                refine x_goto (tgt := 8) d_D_firsts_89 rfl ?_
                refine V.forget 6 [some (.ref ((σ 1).1)), some (.ref ((σ k).1)), some (vi fr), some (vi (ior acc (R 14 (s i - 6)))), some (vi 0), some (vi (i + 1)), none] rfl ?_
                have hg1 := zc_eq1.mp (hi1.symm.trans (by have := zc_or (∀ j, fr ≤ j → j < i → dE R s j); rw [← hi1] at this; omega : g = 1))
                have hq : 0 = zc (∀ j, fr ≤ j → j < i + 1 → dE R s j) := by
                  first | exact zca_f hk1.1 (fun q => by have := q.1; omega) | exact zca_f hk1.1 (fun q => q.2 (by assumption)) | exact zca_t hi1 (by omega) ⟨by omega, by assumption⟩
                exact ih _ (by omega) (i + 1) 0 (ior acc (R 14 (s i - 6))) rfl (by omega) hq (ior_s7 ha7 hN9.2.2) (fun t t0 => by
                  rw [hb_ior, hab t t0, dF_step hk1.1 hg1]
                  refine or_congr Iff.rfl ?_
                  exact ⟨fun q => Or.inr ⟨by omega, q⟩, fun q => by rcases q with q | q; (omega); (exact q.2)⟩)
              · refine x_iconst d_D_firsts_79 ?_
                refine x_goto (tgt := 84) d_D_firsts_80 rfl ?_
                refine x_istore d_D_firsts_84 [some (.ref ((σ 1).1)), some (.ref ((σ k).1)), some (vi fr), some (vi (ior acc (R 14 (s i - 6)))), some (vi 1), some (vi i), some (vi (dy (s i)))] rfl rfl (lr rfl) ?_
                refine x_iinc d_D_firsts_86 rfl [some (.ref ((σ 1).1)), some (.ref ((σ k).1)), some (vi fr), some (vi (ior acc (R 14 (s i - 6)))), some (vi 1), some (vi (i + 1)), some (vi (dy (s i)))] rfl rfl (lr rfl) ?_
                refine x_goto (tgt := 8) d_D_firsts_89 rfl ?_
                refine V.forget 6 [some (.ref ((σ 1).1)), some (.ref ((σ k).1)), some (vi fr), some (vi (ior acc (R 14 (s i - 6)))), some (vi 1), some (vi (i + 1)), none] rfl ?_
                have hg1 := zc_eq1.mp (hi1.symm.trans (by have := zc_or (∀ j, fr ≤ j → j < i → dE R s j); rw [← hi1] at this; omega : g = 1))
                have hq : 1 = zc (∀ j, fr ≤ j → j < i + 1 → dE R s j) := by
                  first | exact zca_f hk1.1 (fun q => by have := q.1; omega) | exact zca_f hk1.1 (fun q => q.2 (by assumption)) | exact zca_t hi1 (by omega) ⟨by omega, by assumption⟩
                exact ih _ (by omega) (i + 1) 1 (ior acc (R 14 (s i - 6))) rfl (by omega) hq (ior_s7 ha7 hN9.2.2) (fun t t0 => by
                  rw [hb_ior, hab t t0, dF_step hk1.1 hg1]
                  refine or_congr Iff.rfl ?_
                  exact ⟨fun q => Or.inr ⟨by omega, q⟩, fun q => by rcases q with q | q; (omega); (exact q.2)⟩)
          · refine x_iconst d_D_firsts_40 ?_
            refine x_iload d_D_firsts_41 rfl ?_
            refine x_ishl d_D_firsts_43 (p2 (s i)) (by rw [show dy (s i) = s i by omega]; exact iI_shl1 (by omega)) ?_
            refine x_goto (tgt := 57) d_D_firsts_44 rfl ?_
            refine x_ior d_D_firsts_57 (ior acc (p2 (s i))) (iI_ior ha7.1 (by first | exact (p2_s7 (by omega)).1 | exact hN9.2.2.1)) ?_
            refine x_istore_n d_D_firsts_58 3 rfl [some (.ref ((σ 1).1)), some (.ref ((σ k).1)), some (vi fr), some (vi (ior acc (p2 (s i)))), some (vi g), some (vi i), some (vi (dy (s i)))] rfl rfl (lr rfl) ?_
            refine x_iload d_D_firsts_59 rfl ?_
            refine x_bipush d_D_firsts_61 rfl ?_
            refine x_icmp_lt (tgt := 83) d_D_firsts_63 rfl (by omega) (by omega) (fun c63 => ?_) (fun c63 => ?_)
            · refine x_iconst d_D_firsts_83 ?_
              refine x_istore d_D_firsts_84 [some (.ref ((σ 1).1)), some (.ref ((σ k).1)), some (vi fr), some (vi (ior acc (p2 (s i)))), some (vi 0), some (vi i), some (vi (dy (s i)))] rfl rfl (lr rfl) ?_
              refine x_iinc d_D_firsts_86 rfl [some (.ref ((σ 1).1)), some (.ref ((σ k).1)), some (vi fr), some (vi (ior acc (p2 (s i)))), some (vi 0), some (vi (i + 1)), some (vi (dy (s i)))] rfl rfl (lr rfl) ?_
              refine x_goto (tgt := 8) d_D_firsts_89 rfl ?_
              refine V.forget 6 [some (.ref ((σ 1).1)), some (.ref ((σ k).1)), some (vi fr), some (vi (ior acc (p2 (s i)))), some (vi 0), some (vi (i + 1)), none] rfl ?_
              have hg1 := zc_eq1.mp (hi1.symm.trans (by have := zc_or (∀ j, fr ≤ j → j < i → dE R s j); rw [← hi1] at this; omega : g = 1))
              have hq : 0 = zc (∀ j, fr ≤ j → j < i + 1 → dE R s j) := by
                first | exact zca_f hk1.1 (fun q => by have := q.1; omega) | exact zca_f hk1.1 (fun q => q.2 (by assumption)) | exact zca_t hi1 (by omega) ⟨by omega, by assumption⟩
              exact ih _ (by omega) (i + 1) 0 (ior acc (p2 (s i))) rfl (by omega) hq (ior_s7 ha7 (p2_s7 (by omega))) (fun t t0 => by
                rw [hb_ior, hab t t0, dF_step hk1.1 hg1]
                refine or_congr Iff.rfl ?_
                rw [hb_p2 (by omega) t0]
                exact ⟨fun q => Or.inl ⟨by omega, by omega⟩, fun q => by rcases q with q | q; (omega); (omega)⟩)
            · omega
  refine x_iconst d_D_firsts_0 ?_
  refine x_istore_n d_D_firsts_1 3 rfl [some (.ref ((σ 1).1)), some (.ref ((σ k).1)), some (vi fr), some (vi 0), none, none, none] rfl rfl (lr rfl) ?_
  refine x_iconst d_D_firsts_2 ?_
  refine x_istore d_D_firsts_3 [some (.ref ((σ 1).1)), some (.ref ((σ k).1)), some (vi fr), some (vi 0), some (vi 1), none, none] rfl rfl (lr rfl) ?_
  refine x_iload_n d_D_firsts_5 2 rfl rfl ?_
  refine x_istore d_D_firsts_6 [some (.ref ((σ 1).1)), some (.ref ((σ k).1)), some (vi fr), some (vi 0), some (vi 1), some (vi fr), none] rfl rfl (lr rfl) ?_
  exact hl _ fr 1 0 rfl (by omega) (zca_e (Int.le_refl _)) (by unfold s7; omega) (fun t t0 => ⟨fun q => absurd q (hb_0 t), fun ⟨j, a, b, _⟩ => by omega⟩)
