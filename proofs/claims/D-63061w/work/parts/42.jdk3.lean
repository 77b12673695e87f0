/-! ArrayList: grow, add, clear, <init> -/
def nwc (cap : Nat) : Nat := if cap = 0 then 10 else cap + cap / 2
/-- the list's array has grown: it is region f's now -/
def grZ (σ : xS) (R : xR) (K e f : Int) (cap : Nat) : xZ := fun o σ' R' => ∃ q : Nat, o = .returned (some (.ref q)) ∧ σ' = xsu σ f (q, 38, nwc cap) ∧ R' K 0 = (q : Int) + 1 ∧ (∀ i, i ≠ 0 → R' K i = R K i) ∧ (∀ i, R' f i = if 0 ≤ i ∧ i < (cap : Int) then R e i else 0) ∧ ∀ a, a ≠ K → a ≠ f → R' a = R a
theorem ishr1 {cap : Nat} (h : cap ≤ 64) : ishr (cap : Int) 1 = ((cap / 2 : Nat) : Int) := by
  unfold ishr
  rw [Int.toNat_natCast, show (1 : Int).toNat = 1 from rfl, Nat.shiftRight_eq_div_pow, Nat.pow_one]
set_option maxHeartbeats 4000000 in
theorem c_AL_grow2 {σ : xS} {R : xR} (K e f n : Int) (cap : Nat) (hA : alI σ R K e n cap) (hc1 : cap ≠ 1) (hn : n = cap) (hf9 : f < 90 ∨ 99 < f) (hf : (σ f).2.1 = 0) (hel : elOk σ R e cap) : Ct m_AL_grow2 3 1 (nwc cap) [.ref (σ K).1, vi ((cap : Int) + 1)] σ R (grZ σ R K e f cap) := by
  refine Ct.of [some (.ref (σ K).1), some (vi ((cap : Int) + 1)), none, none] rfl (by decide +kernel) (lr rfl) (fun X => ?_)
  obtain ⟨hK, hn1, hn2, hcp, hcase⟩ := hA
  have hKf : K ≠ f := fun q => by rw [← q, hK] at hf; cases hf
  have hKf' : f ≠ K := fun q => hKf q.symm
  refine x_aload_n d_AL_grow2_0 0 rfl rfl ?_
  rcases hcase with ⟨h0, hv⟩ | ⟨h0, heK, he, hv⟩
  · subst h0
    refine x_getr K 0 0 (((σ 90).1 : Int) + 1) fl_AL_9 tk_4_0 hK rfl rfl hv d_AL_grow2_1 ?_
    refine x_len0 d_AL_grow2_4 ?_
    refine x_istore_n d_AL_grow2_5 2 rfl [some (.ref (σ K).1), some (vi ((0 : Nat) + 1)), some (vi 0), none] rfl rfl (lr rfl) ?_
    refine x_iload_n d_AL_grow2_6 2 rfl rfl ?_
    refine x_if_gt (tgt := 20) d_AL_grow2_7 rfl (by omega) (fun c7 => ?_) (fun c7 => ?_)
    · omega
    refine x_aload_n d_AL_grow2_10 0 rfl rfl ?_
    refine x_getr K 0 0 (((σ 90).1 : Int) + 1) fl_AL_9 tk_4_0 hK rfl rfl hv d_AL_grow2_11 ?_
    refine x_getsE w_flE d_AL_grow2_14 ?_
    refine x_acmp_eq (tgt := 45) d_AL_grow2_17 rfl (fun _ => ?_) (fun c => absurd rfl c)
    refine x_aload_n d_AL_grow2_45 0 rfl rfl ?_
    refine x_bipush d_AL_grow2_46 rfl ?_
    refine x_iload_n d_AL_grow2_48 1 rfl rfl ?_
    refine x_max 10 w_mxAL (by omega) (by omega) rfl (lr rfl) ⟨lr rfl, lr rfl⟩ (lr rfl) d_AL_grow2_49 ?_
    refine x_anewO f (N := 10) hf9 hf w_clA rfl (by omega) d_AL_grow2_52 ⟨lr rfl, lr rfl⟩ (fun q => ?_)
    refine x_dup_x1 d_AL_grow2_55 rfl rfl ?_
    refine x_putr K 0 0 ((q : Int) + 1) fp_AL_9 tk_4_0 (by rw [xsu_ne _ _ hKf]; exact hK) (by rw [xsu_ne _ _ hKf]) rfl rfl ⟨rfl, rfl⟩ d_AL_grow2_56 (fun R1 hR1 => ?_)
    refine x_aret d_AL_grow2_59 rfl (Or.inr ⟨_, rfl⟩) (Or.inr ⟨_, rfl⟩) (lr rfl) (lr rfl) ⟨q, rfl, rfl, xr_s hR1, fun i hi => ?_, fun i => ?_, fun a h1 h2 => ?_⟩
    · rw [xr_d hR1 hi, xru_ne _ _ hKf]
    · rw [xr_o hR1 hKf', xru_self, if_neg (by omega)]
    · funext i
      rw [xr_o hR1 h1, xru_ne _ _ h2]
  · have hef : e ≠ f := fun q => by rw [q] at he; rw [he] at hf; cases hf
    refine x_getr K 0 0 (((σ e).1 : Int) + 1) fl_AL_9 tk_4_0 hK rfl rfl hv d_AL_grow2_1 ?_
    refine x_len e he rfl (by decide) d_AL_grow2_4 ?_
    refine x_istore_n d_AL_grow2_5 2 rfl [some (.ref (σ K).1), some (vi ((cap : Int) + 1)), some (vi (cap : Int)), none] rfl rfl (lr rfl) ?_
    refine x_iload_n d_AL_grow2_6 2 rfl rfl ?_
    refine x_if_gt (tgt := 20) d_AL_grow2_7 rfl (by omega) (fun c7 => ?_) (fun c7 => ?_)
    rotate_left
    · omega
    refine x_iload_n d_AL_grow2_20 2 rfl rfl ?_
    refine x_iload_n d_AL_grow2_21 1 rfl rfl ?_
    refine x_iload_n d_AL_grow2_22 2 rfl rfl ?_
    refine x_isub d_AL_grow2_23 ?_
    refine x_iload_n d_AL_grow2_24 2 rfl rfl ?_
    refine x_iconst d_AL_grow2_25 ?_
    refine x_ishr d_AL_grow2_26 ((cap / 2 : Nat) : Int) (by rw [← ishr1 hcp]; exact iI_ishr ⟨by omega, by omega⟩ (by omega)) ?_
    have hd2 : ((cap / 2 : Nat) : Int) ≤ 64 := by omega
    refine x_csi (As := [vi (cap : Int), vi ((cap : Int) + 1 - cap), vi ((cap / 2 : Nat) : Int)]) (c_AS_newLength (cap : Int) ((cap : Int) + 1 - cap) ((cap / 2 : Nat) : Int) (by omega) (by omega) (by omega)) cs_AL_73 rfl rfl (lr rfl) d_AL_grow2_27 (lr rfl) ⟨Nat.zero_le _, Nat.zero_le _⟩ ?_
    have hw : nwc cap = cap + cap / 2 := if_neg h0
    refine V.teq ((nwc cap : Nat) : Int) (by
      rw [hw]
      by_cases hh : (cap : Int) + 1 - cap < ((cap / 2 : Nat) : Int)
      · rw [if_pos hh]; omega
      · rw [if_neg hh]; omega) ?_
    refine x_istore_n d_AL_grow2_30 3 rfl [some (.ref (σ K).1), some (vi ((cap : Int) + 1)), some (vi (cap : Int)), some (vi ((nwc cap : Nat) : Int))] rfl rfl (lr rfl) ?_
    refine x_aload_n d_AL_grow2_31 0 rfl rfl ?_
    refine x_aload_n d_AL_grow2_32 0 rfl rfl ?_
    refine x_getr K 0 0 (((σ e).1 : Int) + 1) fl_AL_9 tk_4_0 hK rfl rfl hv d_AL_grow2_33 ?_
    refine x_iload_n d_AL_grow2_36 3 rfl rfl ?_
    refine x_cs (As := [.ref (σ e).1, vi ((nwc cap : Nat) : Int)]) (c_Arr_copyOf2 e f cap (nwc cap) he hf9 hf (by omega) hel) cs_AL_66 rfl rfl (lr rfl) d_AL_grow2_37 (lr rfl) ⟨Nat.le_refl _, by show 0 + nwc cap ≤ nwc cap; omega⟩ (fun r σ' R' hZ => ?_)
    obtain ⟨q, h1, h2, h3, h4⟩ := hZ
    cases h1
    subst h2
    refine x_dup_x1 d_AL_grow2_40 rfl rfl ?_
    refine x_putr K 0 0 ((q : Int) + 1) fp_AL_9 tk_4_0 (by rw [xsu_ne _ _ hKf]; exact hK) (by rw [xsu_ne _ _ hKf]) rfl rfl ⟨rfl, rfl⟩ d_AL_grow2_41 (fun R1 hR1 => ?_)
    refine x_aret d_AL_grow2_44 rfl (Or.inr ⟨_, rfl⟩) (Or.inr ⟨_, rfl⟩) (Nat.le_refl _) (by show 0 + nwc cap ≤ nwc cap; omega) ⟨q, rfl, rfl, xr_s hR1, fun i hi => ?_, fun i => ?_, fun a h5 h6 => ?_⟩
    · rw [xr_d hR1 hi, h4 K hKf]
    · rw [xr_o hR1 hKf', h3]
    · funext i
      rw [xr_o hR1 h5, h4 a h6]
theorem c_AL_grow {σ : xS} {R : xR} (K e f n : Int) (cap : Nat) (hA : alI σ R K e n cap) (hc1 : cap ≠ 1) (hn : n = cap) (hf9 : f < 90 ∨ 99 < f) (hf : (σ f).2.1 = 0) (hel : elOk σ R e cap) : Ct m_AL_grow 4 1 (nwc cap) [.ref (σ K).1] σ R (grZ σ R K e f cap) := by
  refine Ct.of [some (.ref (σ K).1)] rfl (by decide +kernel) (lr rfl) (fun X => ?_)
  refine x_aload_n d_AL_grow_0 0 rfl rfl ?_
  refine x_aload_n d_AL_grow_1 0 rfl rfl ?_
  refine x_geti K 1 1 (cap : Int) fl_AL_48 tk_4_1 hA.1 rfl rfl (hA.2.1.trans hn) d_AL_grow_2 ?_
  refine x_iconst d_AL_grow_5 ?_
  refine x_iadd d_AL_grow_6 ?_
  refine x_cv K (As := [vi ((cap : Int) + 1)]) (c_AL_grow2 K e f n cap hA hc1 hn hf9 hf hel) cs_AL_69 hA.rc rfl rfl (lr rfl) d_AL_grow_7 (lr rfl) ⟨Nat.le_refl _, by show 0 + nwc cap ≤ nwc cap; omega⟩ (fun r σ' R' hZ => ?_)
  obtain ⟨q, h1, h2⟩ := hZ
  cases h1
  exact x_aret d_AL_grow_10 rfl (Or.inr ⟨_, rfl⟩) (Or.inr ⟨_, rfl⟩) (Nat.le_refl _) (by show 0 + nwc cap ≤ nwc cap; omega) ⟨q, rfl, h2⟩
