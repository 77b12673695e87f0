/-! ArrayList: growing -/
section XLDC
variable {X : xCtx} {M : xM} {B : xB} {σ : xS} {R : xR} {cn sn pc : Nat} {L : List (Option Value)} {st stk : List Value}
theorem x_ldc {idx : Nat} {v : Int32} (z : Int) (hv : v = iI z) (hco : Cond.constant M.1.cls idx v ∈ xtb) (hd : decode M.2.1 pc = .ok (.ldc idx, 2)) (kk : V X M B σ R cn sn (pc + 2) L (vi z :: st)) : V X M B σ R cn sn pc L st := by
  obtain ⟨p, l, e, Rm, s, m, args, below, meth, c, N0, D, dA⟩ := X
  intro ok H locs ls hH hF hl
  subst hv
  exact lv_ldc ok.1 ok.2.1 ok.2.2.2.2.1 (ok.2.2.2.2.2.1 _ hco) hd (kk ok H locs ls hH hF hl)
end XLDC
theorem w_soft : Cond.constant "jdk/internal/util/ArraysSupport" 200 (2147483639 : Int32) ∈ xtb := xin 205 (by decide +kernel) (by decide +kernel)
theorem w_clM : Cond.classLink "java/util/Arrays" 110 "[Ljava/lang/Object;" ∈ xtb := xin 658 (by decide +kernel) (by decide +kernel)
theorem w_clO : Cond.classLink "java/util/Arrays" 2 "java/lang/Object" ∈ xtb := xin 660 (by decide +kernel) (by decide +kernel)
theorem w_clA : Cond.classLink "java/util/ArrayList" 7 "java/lang/Object" ∈ xtb := xin 662 (by decide +kernel) (by decide +kernel)
theorem w_flE : Cond.fieldLink "java/util/ArrayList" 39 "java/util/ArrayList" "DEFAULTCAPACITY_EMPTY_ELEMENTDATA" "[Ljava/lang/Object;" ∈ xtb := xin 47 (by decide +kernel) (by decide +kernel)
theorem c_AS_newLength {σ : xS} {R : xR} (a b c : Int) (ha : 0 ≤ a ∧ a ≤ 1000) (hb : 1 ≤ b ∧ b ≤ 1000) (hc : 0 ≤ c ∧ c ≤ 1000) : Ct m_AS_newLength 2 0 0 [vi a, vi b, vi c] σ R (Zi σ R (a + if b < c then c else b)) := by
  refine Ct.of [some (vi a), some (vi b), some (vi c), none] rfl (by decide +kernel) (lr rfl) (fun X => ?_)
  obtain ⟨z, hz⟩ : ∃ z, (if b < c then c else b) = z := ⟨_, rfl⟩
  have hz2 : 1 ≤ z ∧ z ≤ 1000 := by
    rw [← hz]
    by_cases h : b < c
    · rw [if_pos h]; omega
    · rw [if_neg h]; omega
  rw [hz]
  refine x_iload_n d_AS_newLength_0 0 rfl rfl ?_
  refine x_iload_n d_AS_newLength_1 1 rfl rfl ?_
  refine x_iload_n d_AS_newLength_2 2 rfl rfl ?_
  refine x_max z w_mxAS (by omega) (by omega) hz (lr rfl) ⟨lr rfl, lr rfl⟩ (lr rfl) d_AS_newLength_3 ?_
  refine x_iadd d_AS_newLength_6 ?_
  refine x_istore_n d_AS_newLength_7 3 rfl [some (vi a), some (vi b), some (vi c), some (vi (a + z))] rfl rfl (lr rfl) ?_
  refine x_iconst d_AS_newLength_8 ?_
  refine x_iload_n d_AS_newLength_9 3 rfl rfl ?_
  refine x_icmp_ge (tgt := 21) d_AS_newLength_10 rfl (by omega) (by omega) (fun c10 => ?_) (fun c10 => ?_)
  · omega
  refine x_iload_n d_AS_newLength_13 3 rfl rfl ?_
  refine x_ldc 2147483639 (by decide) w_soft d_AS_newLength_14 ?_
  refine x_icmp_gt (tgt := 21) d_AS_newLength_16 rfl (by omega) (by omega) (fun c16 => ?_) (fun c16 => ?_)
  · omega
  refine x_iload_n d_AS_newLength_19 3 rfl rfl ?_
  exact x_iret d_AS_newLength_20 rfl (lr rfl) (lr rfl) ⟨rfl, rfl, rfl⟩
/-- a new array at region f: the first n places of region e's, then nothing -/
def cpZ (σ : xS) (R : xR) (e f n : Int) (N : Nat) : xZ := fun o σ' R' => ∃ q : Nat, o = .returned (some (.ref q)) ∧ σ' = xsu σ f (q, 38, N) ∧ (∀ i, R' f i = if 0 ≤ i ∧ i < n then R e i else 0) ∧ ∀ a, a ≠ f → R' a = R a
/-- what an array holds: nothing, or rules and states -/
def elOk (σ : xS) (R : xR) (e n : Int) : Prop := ∀ i, 0 ≤ i → i < n → R e i = 0 ∨ ∃ (kv : Int) (tv nv : Nat), (σ kv).2 = (tv, nv) ∧ R e i = ((σ kv).1 : Int) + 1 ∧ (tv ≠ 0 ∧ tv < 32 ∧ ((tv - 1) % 16 = 1 ∨ (tv - 1) % 16 = 2))
theorem c_Arr_copyOf3 {σ : xS} {R : xR} (e f : Int) (n0 N : Nat) (he : (σ e).2 = (38, n0)) (hf9 : f < 90 ∨ 99 < f) (hf : (σ f).2.1 = 0) (h1 : n0 ≤ N ∧ N ≤ 1000) (hel : elOk σ R e n0) : Ct m_Arr_copyOf3 1 1 N [.ref (σ e).1, vi (N : Int), .ref (σ 93).1] σ R (cpZ σ R e f n0 N) := by
  refine Ct.of [some (.ref (σ e).1), some (vi (N : Int)), some (.ref (σ 93).1), none] rfl (by decide +kernel) (lr rfl) (fun X => ?_)
  have hef : e ≠ f := fun q => by rw [q] at he; rw [he] at hf; cases hf
  refine x_aload_n d_Arr_copyOf3_0 2 rfl rfl ?_
  refine x_ldcM w_clM d_Arr_copyOf3_1 ?_
  refine x_acmp_ne (tgt := 13) d_Arr_copyOf3_3 rfl (fun c => absurd rfl c) (fun _ => ?_)
  refine x_iload_n d_Arr_copyOf3_6 1 rfl rfl ?_
  refine x_anewO f hf9 hf w_clO rfl (by omega) d_Arr_copyOf3_7 ⟨Nat.le_refl _, by show 0 + N ≤ N; omega⟩ (fun q => ?_)
  refine x_goto (tgt := 24) d_Arr_copyOf3_10 rfl ?_
  refine x_astore_n d_Arr_copyOf3_24 3 rfl [some (.ref (σ e).1), some (vi (N : Int)), some (.ref (σ 93).1), some (.ref q)] rfl rfl (lr rfl) ?_
  refine x_aload_n d_Arr_copyOf3_25 0 rfl rfl ?_
  refine x_iconst d_Arr_copyOf3_26 ?_
  refine x_aload_n d_Arr_copyOf3_27 3 rfl rfl ?_
  refine x_iconst d_Arr_copyOf3_28 ?_
  refine x_aload_n d_Arr_copyOf3_29 0 rfl rfl ?_
  have he' : (xsu σ f (q, 38, N) e).2 = (38, n0) := by rw [xsu_ne _ _ hef]; exact he
  have ha' : (xsu σ f (q, 38, N) e).1 = (σ e).1 := by rw [xsu_ne _ _ hef]
  refine x_len e he' ha' (by decide) d_Arr_copyOf3_30 ?_
  refine x_iload_n d_Arr_copyOf3_31 1 rfl rfl ?_
  refine x_min (n0 : Int) w_mnAr (by omega) (by omega) (if_neg (by omega)) (lr rfl) ⟨Nat.le_refl _, by show 0 + N ≤ N; omega⟩ (lr rfl) d_Arr_copyOf3_32 ?_
  have hRe : xru R f (fun _ => 0) e = R e := xru_ne _ _ hef
  refine x_copyO e f (n0 := n0) (n1 := N) he' ha' (by rw [xsu_self]) (by rw [xsu_self]) (by omega) (by omega) (fun i i1 i2 => ?_) w_acA (lr rfl) (lr rfl) d_Arr_copyOf3_35 (fun R1 hR1 => ?_)
  · rw [hRe]
    rcases hel i i1 i2 with h | ⟨kv, tv, nv, v1, v2, v3⟩
    · exact Or.inl h
    · have hkf : kv ≠ f := fun qq => by rw [qq] at v1; rw [v1] at hf; exact v3.1 hf
      exact Or.inr ⟨kv, tv, nv, by rw [xsu_ne _ _ hkf]; exact v1, by rw [xsu_ne _ _ hkf]; exact v2, v3⟩
  refine x_aload_n d_Arr_copyOf3_38 3 rfl rfl ?_
  refine x_aret d_Arr_copyOf3_39 rfl (Or.inr ⟨_, rfl⟩) (Or.inr ⟨_, rfl⟩) (Nat.le_refl _) (by show 0 + N ≤ N; omega) ⟨q, rfl, rfl, fun i => ?_, fun a ha => ?_⟩
  · rw [hR1, xru_self, hRe, xru_self]
  · rw [hR1, xru_ne _ _ ha, xru_ne _ _ ha]
theorem c_Arr_copyOf2 {σ : xS} {R : xR} (e f : Int) (n0 N : Nat) (he : (σ e).2 = (38, n0)) (hf9 : f < 90 ∨ 99 < f) (hf : (σ f).2.1 = 0) (h1 : n0 ≤ N ∧ N ≤ 1000) (hel : elOk σ R e n0) : Ct m_Arr_copyOf2 2 1 N [.ref (σ e).1, vi (N : Int)] σ R (cpZ σ R e f n0 N) := by
  refine Ct.of [some (.ref (σ e).1), some (vi (N : Int))] rfl (by decide +kernel) (lr rfl) (fun X => ?_)
  refine x_aload_n d_Arr_copyOf2_0 0 rfl rfl ?_
  refine x_iload_n d_Arr_copyOf2_1 1 rfl rfl ?_
  refine x_aload_n d_Arr_copyOf2_2 0 rfl rfl ?_
  refine x_getC e he rfl w_gcL (lr rfl) (lr rfl) d_Arr_copyOf2_3 ?_
  refine x_cs (As := [.ref (σ e).1, vi (N : Int), .ref (σ 93).1]) (c_Arr_copyOf3 e f n0 N he hf9 hf h1 hel) cs_Arr_300 rfl rfl (lr rfl) d_Arr_copyOf2_6 (lr rfl) ⟨Nat.le_refl _, by show 0 + N ≤ N; omega⟩ (fun r σ' R' hZ => ?_)
  obtain ⟨q, h1, h2, h3, h4⟩ := hZ
  cases h1
  exact x_aret d_Arr_copyOf2_9 rfl (Or.inr ⟨_, rfl⟩) (Or.inr ⟨_, rfl⟩) (Nat.le_refl _) (by show 0 + N ≤ N; omega) ⟨q, rfl, h2, h3, h4⟩
