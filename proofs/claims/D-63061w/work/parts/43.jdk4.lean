/-! ArrayList: add, clear, <init> -/
/-- an element is put behind the n there are -/
def adI (σ : xS) (R : xR) (K e f n : Int) (cap v : Nat) (σ' : xS) (R' : xR) : Prop := ∃ (e' : Int) (cap' : Nat), alI σ' R' K e' (n + 1) cap' ∧ ((e' = e ∧ cap' = cap ∧ n < cap ∧ σ' = σ) ∨ (e' = f ∧ cap' = nwc cap ∧ n = cap ∧ ∃ q, σ' = xsu σ f (q, 38, nwc cap))) ∧ (∀ i, 0 ≤ i → i < n → R' e' i = R e i) ∧ R' e' n = (v : Int) + 1 ∧ ∀ a, a ≠ K → a ≠ e' → a ≠ f → R' a = R a
/-- the object is a rule or a state -/
def obRS (σ : xS) (kv : Int) : Prop := ∃ (tv nv : Nat), (σ kv).2 = (tv, nv) ∧ (tv ≠ 0 ∧ tv < 32 ∧ ((tv - 1) % 16 = 1 ∨ (tv - 1) % 16 = 2))
section XAO
variable {X : xCtx} {M : xM} {B : xB} {σ : xS} {R : xR} {cn sn pc : Nat} {L : List (Option Value)} {st stk : List Value}
theorem x_aastRS (k kv : Int) {n a v : Nat} {i : Int} (hs : (σ k).2 = (38, n)) (ha : (σ k).1 = a) (hkv : obRS σ kv) (hav : (σ kv).1 = v) (hn : n < 2147483648) (hi : 0 ≤ i ∧ i < n) (hd : decode M.2.1 pc = .ok (.aastore, 1))
    (kk : ∀ R1, R1 = xup R k i ((v : Int) + 1) → V X M B σ R1 cn sn (pc + 1) L st) : V X M B σ R cn sn pc L (.ref v :: vi i :: .ref a :: st) := by
  obtain ⟨tv, nv, h1, h2, h3, h4 | h4⟩ := hkv
  · exact x_aast k kv 1097 (ci := 1) (C := R_Rule) hs ha h1 hav ⟨h2, h3, h4⟩ rfl (by decide +kernel) hn hi hd kk
  · exact x_aast k kv 1098 (ci := 2) (C := R_State) hs ha h1 hav ⟨h2, h3, h4⟩ rfl (by decide +kernel) hn hi hd kk
end XAO
theorem nwc_pos {cap : Nat} (h : cap ≤ 40) : cap < nwc cap ∧ nwc cap ≤ 64 ∨ cap = 1 := by
  unfold nwc
  by_cases c : cap = 0
  · rw [if_pos c]; omega
  · rw [if_neg c]; omega
set_option maxHeartbeats 4000000 in
theorem c_AL_add2 {σ : xS} {R : xR} (K e f kv n : Int) (cap ea : Nat) (hA : alI σ R K e n cap) (hea : R K 0 = (ea : Int) + 1) (hc1 : cap ≠ 1) (hc40 : n = cap → cap ≤ 40) (hf9 : f < 90 ∨ 99 < f) (hf : (σ f).2.1 = 0) (hel : n = cap → elOk σ R e cap) (hkv : obRS σ kv) : Ct m_AL_add2 5 1 64 [.ref (σ K).1, .ref (σ kv).1, .ref ea, vi n] σ R (fun o σ' R' => o = .returned none ∧ adI σ R K e f n cap (σ kv).1 σ' R') := by
  refine Ct.of [some (.ref (σ K).1), some (.ref (σ kv).1), some (.ref ea), some (vi n)] rfl (by decide +kernel) (lr rfl) (fun X => ?_)
  have hA0 := hA
  obtain ⟨hK, hn1, hn2, hcp, hcase⟩ := hA
  have hKf : K ≠ f := fun q => by rw [← q, hK] at hf; cases hf
  have hKf' : f ≠ K := fun q => hKf q.symm
  have hkf : kv ≠ f := fun q => by obtain ⟨tv, nv, h1, h2, -⟩ := hkv; rw [q] at h1; rw [h1] at hf; exact h2 hf
  -- what comes when the array is full
  have full : n = cap → V X m_AL_add2 (5, 1, 64, fun o σ' R' => o = .returned none ∧ adI σ R K e f n cap (σ kv).1 σ' R') σ R 0 0 6 [some (.ref (σ K).1), some (.ref (σ kv).1), some (.ref ea), some (vi n)] [] := by
    intro hnc
    have hp : cap < nwc cap ∧ nwc cap ≤ 64 := (nwc_pos (hc40 hnc)).resolve_right hc1
    refine x_aload_n d_AL_add2_6 0 rfl rfl ?_
    refine x_cv K (As := []) (c_AL_grow K e f n cap hA0 hc1 hnc hf9 hf (hel hnc)) cs_AL_129 hA0.rc rfl rfl (lr rfl) d_AL_add2_7 (lr rfl) ⟨lr rfl, by show 0 + nwc cap ≤ 64; omega⟩ (fun r σ' R' hZ => ?_)
    obtain ⟨q, h1, h2, h3, h4, h5, h6⟩ := hZ
    cases h1
    subst h2
    refine x_astore_n d_AL_add2_10 2 rfl [some (.ref (σ K).1), some (.ref (σ kv).1), some (.ref q), some (vi n)] rfl rfl (lr rfl) ?_
    refine x_aload_n d_AL_add2_11 2 rfl rfl ?_
    refine x_iload_n d_AL_add2_12 3 rfl rfl ?_
    refine x_aload_n d_AL_add2_13 1 rfl rfl ?_
    have hkv' : obRS (xsu σ f (q, 38, nwc cap)) kv := by
      obtain ⟨tv, nv, g1, g2⟩ := hkv
      exact ⟨tv, nv, by rw [xsu_ne _ _ hkf]; exact g1, g2⟩
    refine x_aastRS f kv (n := nwc cap) (by rw [xsu_self]) (by rw [xsu_self]) hkv' (by rw [xsu_ne _ _ hkf]) (by omega) (by omega) d_AL_add2_14 (fun R1 hR1 => ?_)
    refine x_aload_n d_AL_add2_15 0 rfl rfl ?_
    refine x_iload_n d_AL_add2_16 3 rfl rfl ?_
    refine x_iconst d_AL_add2_17 ?_
    refine x_iadd d_AL_add2_18 ?_
    refine x_puti K 1 1 fp_AL_48 tk_4_1 (by rw [xsu_ne _ _ hKf]; exact hK) (by rw [xsu_ne _ _ hKf]) rfl d_AL_add2_19 (fun R2 hR2 => ?_)
    refine x_vret d_AL_add2_22 rfl (lr rfl) (by show 0 + nwc cap ≤ 64; omega) ⟨rfl, f, nwc cap, ⟨by rw [xsu_ne _ _ hKf]; exact hK, xr_s hR2, by omega, by omega, Or.inr ⟨by omega, hKf', by rw [xsu_self], ?_⟩⟩, Or.inr ⟨rfl, rfl, hnc, q, rfl⟩, fun i i1 i2 => ?_, ?_, fun a a1 a2 a3 => ?_⟩
    · rw [xr_d hR2 (by decide), xr_o hR1 hKf, h3, xsu_self]
    · rw [xr_o hR2 hKf', xr_d hR1 (by omega), h5, if_pos (by omega)]
    · rw [xr_o hR2 hKf', xr_s hR1]
    · funext i
      rw [xr_o hR2 a1, xr_o hR1 a3, h6 a a1 a3]
  refine x_iload_n d_AL_add2_0 3 rfl rfl ?_
  refine x_aload_n d_AL_add2_1 2 rfl rfl ?_
  rcases hcase with ⟨h0, hv⟩ | ⟨h0, heK, he, hv⟩
  · have e1 : ea = (σ 90).1 := by omega
    subst e1
    refine x_len0 d_AL_add2_2 ?_
    refine x_icmp_ne (tgt := 11) d_AL_add2_3 rfl (by omega) (by omega) (fun c3 => ?_) (fun c3 => ?_)
    · omega
    · exact full (by omega)
  · have e1 : ea = (σ e).1 := by omega
    subst e1
    refine x_len e he rfl (by decide) d_AL_add2_2 ?_
    refine x_icmp_ne (tgt := 11) d_AL_add2_3 rfl (by omega) (by omega) (fun c3 => ?_) (fun c3 => ?_)
    · refine x_aload_n d_AL_add2_11 2 rfl rfl ?_
      refine x_iload_n d_AL_add2_12 3 rfl rfl ?_
      refine x_aload_n d_AL_add2_13 1 rfl rfl ?_
      refine x_aastRS e kv (n := cap) he rfl hkv rfl (by omega) (by omega) d_AL_add2_14 (fun R1 hR1 => ?_)
      refine x_aload_n d_AL_add2_15 0 rfl rfl ?_
      refine x_iload_n d_AL_add2_16 3 rfl rfl ?_
      refine x_iconst d_AL_add2_17 ?_
      refine x_iadd d_AL_add2_18 ?_
      refine x_puti K 1 1 fp_AL_48 tk_4_1 hK rfl rfl d_AL_add2_19 (fun R2 hR2 => ?_)
      refine x_vret d_AL_add2_22 rfl (lr rfl) (lr rfl) ⟨rfl, e, cap, ⟨hK, xr_s hR2, by omega, by omega, Or.inr ⟨h0, heK, he, ?_⟩⟩, Or.inl ⟨rfl, rfl, by omega, rfl⟩, fun i i1 i2 => ?_, ?_, fun a a1 a2 a3 => ?_⟩
      · rw [xr_d hR2 (by decide), xr_o hR1 (fun q => heK q.symm)]; exact hv
      · rw [xr_o hR2 heK, xr_d hR1 (by omega)]
      · rw [xr_o hR2 heK, xr_s hR1]
      · funext i
        rw [xr_o hR2 a1, xr_o hR1 a2]
    · exact full (by omega)
set_option maxHeartbeats 4000000 in
theorem c_AL_add {σ : xS} {R : xR} (K e f kv n : Int) (cap : Nat) (hA : alI σ R K e n cap) (hc1 : cap ≠ 1) (hc40 : n = cap → cap ≤ 40) (hf9 : f < 90 ∨ 99 < f) (hf : (σ f).2.1 = 0) (hel : n = cap → elOk σ R e cap) (hkv : obRS σ kv) : Ct m_AL_add 6 1 64 [.ref (σ K).1, .ref (σ kv).1] σ R (fun o σ' R' => o = .returned (some (vi 1)) ∧ adI σ R K e f n cap (σ kv).1 σ' R') := by
  refine Ct.of [some (.ref (σ K).1), some (.ref (σ kv).1)] rfl (by decide +kernel) (lr rfl) (fun X => ?_)
  have hA0 := hA
  obtain ⟨hK, hn1, hn2, hcp, hcase⟩ := hA
  obtain ⟨ea, hea⟩ : ∃ ea : Nat, R K 0 = (ea : Int) + 1 := by
    rcases hcase with ⟨-, h⟩ | ⟨-, -, -, h⟩
    · exact ⟨_, h⟩
    · exact ⟨_, h⟩
  refine x_aload_n d_AL_add_0 0 rfl rfl ?_
  refine x_dup d_AL_add_1 rfl ?_
  refine x_geti K 2 2 (R K 2) fl_AL_63 tk_4_2 hK rfl rfl rfl d_AL_add_2 ?_
  refine x_iconst d_AL_add_5 ?_
  refine x_iadd d_AL_add_6 ?_
  refine x_puti K 2 2 fp_AL_63 tk_4_2 hK rfl rfl d_AL_add_7 (fun R1 hR1 => ?_)
  have hA1 : alI σ R1 K e n cap := by
    refine ⟨hK, (xr_d hR1 (by decide)).trans hn1, hn2, hcp, ?_⟩
    rcases hcase with ⟨h0, h⟩ | ⟨h0, h1, h2, h⟩
    · exact Or.inl ⟨h0, (xr_d hR1 (by decide)).trans h⟩
    · exact Or.inr ⟨h0, h1, h2, (xr_d hR1 (by decide)).trans h⟩
  have hel1 : n = cap → elOk σ R1 e cap := by
    intro hnc i i1 i2
    rcases hcase with ⟨h0, h⟩ | ⟨h0, h1, h2, h⟩
    · subst h0; omega
    · rw [xr_o hR1 h1]; exact hel hnc i i1 i2
  have hRe : cap ≠ 0 → e ≠ K := by
    intro h0
    rcases hcase with ⟨h, -⟩ | ⟨-, h1, -⟩
    · exact absurd h h0
    · exact h1
  refine x_aload_n d_AL_add_10 0 rfl rfl ?_
  refine x_aload_n d_AL_add_11 1 rfl rfl ?_
  refine x_aload_n d_AL_add_12 0 rfl rfl ?_
  refine x_getr K 0 0 ((ea : Int) + 1) fl_AL_9 tk_4_0 hK rfl rfl ((xr_d hR1 (by decide)).trans hea) d_AL_add_13 ?_
  refine x_aload_n d_AL_add_16 0 rfl rfl ?_
  refine x_geti K 1 1 n fl_AL_48 tk_4_1 hK rfl rfl hA1.2.1 d_AL_add_17 ?_
  refine x_cv K (As := [.ref (σ kv).1, .ref ea, vi n]) (c_AL_add2 K e f kv n cap ea hA1 ((xr_d hR1 (by decide)).trans hea) hc1 hc40 hf9 hf hel1 hkv) cs_AL_131 hA0.rc rfl rfl (lr rfl) d_AL_add_20 (lr rfl) ⟨lr rfl, lr rfl⟩ (fun r σ' R' hZ => ?_)
  obtain ⟨h1, e', cap', h2, h3, h4, h5, h6⟩ := hZ
  cases h1
  refine x_iconst d_AL_add_23 ?_
  refine x_zret d_AL_add_24 rfl (narz (Or.inr rfl)) (lr rfl) (lr rfl) ⟨rfl, e', cap', h2, h3, fun i i1 i2 => ?_, h5, fun a a1 a2 a3 => ?_⟩
  · rw [h4 i i1 i2, xr_o hR1 (hRe (by omega))]
  · rw [h6 a a1 a2 a3]
    funext i
    exact xr_o hR1 a1
