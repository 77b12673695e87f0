/-! ArrayList and what it calls (walks printed by gen/jdk1.py) -/
def Za (σ : xS) (R : xR) (v : Value) : xZ := fun o σ' R' => o = .returned (some v) ∧ σ' = σ ∧ R' = R
section XZA
variable {X : xCtx} {M : xM} {B : xB} {σ : xS} {R : xR} {cn sn pc : Nat} {L : List (Option Value)} {st stk : List Value}
theorem x_cva (K : Int) {M' : xM} {d nargs idx a : Nat} {As : List Value} {v : Value} (ct : Ct M' d 0 0 (.ref a :: As) σ R (Za σ R v)) (cs : xCv M.1.cls idx M' nargs) (hrc : xRc σ K a M'.1.cls) (hlen : As.length = nargs) (hstk : stk = As.reverse ++ .ref a :: st) (hcat : (st.map fun v => v.category).sum ≤ 8) (hd : decode M.2.1 pc = .ok (.invokevirtual idx, 3))
    (hB : d + 1 ≤ B.1) (hcs : cn ≤ B.2.1 ∧ sn ≤ B.2.2.1) (kk : V X M B σ R cn sn (pc + 3) L (v :: st)) : V X M B σ R cn sn pc L stk :=
  x_cv K ct cs hrc hlen hstk hcat hd hB hcs (fun r σ' R' h => by
    obtain ⟨h1, h2, h3⟩ := h
    cases h1
    subst h2
    subst h3
    exact kk)
theorem x_csa {M' : xM} {d nargs idx : Nat} {As : List Value} {v : Value} (ct : Ct M' d 0 0 As σ R (Za σ R v)) (cs : xCs M.1.cls idx M' nargs) (hlen : As.length = nargs) (hstk : stk = As.reverse ++ st) (hcat : (st.map fun v => v.category).sum ≤ 8) (hd : decode M.2.1 pc = .ok (.invokestatic idx, 3))
    (hB : d + 1 ≤ B.1) (hcs : cn ≤ B.2.1 ∧ sn ≤ B.2.2.1) (kk : V X M B σ R cn sn (pc + 3) L (v :: st)) : V X M B σ R cn sn pc L stk :=
  x_cs ct cs hlen hstk hcat hd hB hcs (fun r σ' R' h => by
    obtain ⟨h1, h2, h3⟩ := h
    cases h1
    subst h2
    subst h3
    exact kk)
end XZA
/-- a list at region K: n elements, an array of cap places at region e (none yet when cap is 0) -/
def alI (σ : xS) (R : xR) (K e n : Int) (cap : Nat) : Prop := (σ K).2 = (4, 0) ∧ R K 1 = n ∧ (0 ≤ n ∧ n ≤ cap) ∧ cap ≤ 64 ∧ ((cap = 0 ∧ R K 0 = ((σ 90).1 : Int) + 1) ∨ (cap ≠ 0 ∧ e ≠ K ∧ (σ e).2 = (38, cap) ∧ R K 0 = ((σ e).1 : Int) + 1))
theorem alI.rc {σ : xS} {R : xR} {K e n : Int} {cap : Nat} (h : alI σ R K e n cap) : xRc σ K (σ K).1 "java/util/ArrayList" := ⟨rfl, 4, 0, 3, F_AL, 3, h.1, by decide, rfl⟩
theorem w_mx : Cond.static Lib.Math.max.name ∈ xtb ∧ Cond.initialized "java/lang/Math" ∈ xtb ∧ Cond.code Lib.Math.max.name Lib.Math.max.code 2 (some .int) ∈ xtb := ⟨xin 203 (by decide +kernel) (by decide +kernel), xin 11 (by decide +kernel) (by decide +kernel), xin 204 (by decide +kernel) (by decide +kernel)⟩
theorem w_mn : Cond.static Lib.Math.min.name ∈ xtb ∧ Cond.code Lib.Math.min.name Lib.Math.min.code 2 (some .int) ∈ xtb := ⟨xin 221 (by decide +kernel) (by decide +kernel), xin 222 (by decide +kernel) (by decide +kernel)⟩
theorem w_mxAL : Cond.methodLink "java/util/ArrayList" 79 Lib.Math.max.name ∈ xtb := xin 661 (by decide +kernel) (by decide +kernel)
theorem w_mxAS : Cond.methodLink "jdk/internal/util/ArraysSupport" 194 Lib.Math.max.name ∈ xtb := xin 202 (by decide +kernel) (by decide +kernel)
theorem w_mnAr : Cond.methodLink "java/util/Arrays" 304 Lib.Math.min.name ∈ xtb := xin 220 (by decide +kernel) (by decide +kernel)
section XMM
variable {X : xCtx} {M : xM} {B : xB} {σ : xS} {R : xR} {cn sn pc : Nat} {L : List (Option Value)} {st stk : List Value}
theorem x_max {idx : Nat} {a b : Int} (z : Int) (hlk : Cond.methodLink M.1.cls idx Lib.Math.max.name ∈ xtb) (ra : -2147483648 ≤ a ∧ a < 2147483648) (rb : -2147483648 ≤ b ∧ b < 2147483648) (hz : (if a < b then b else a) = z) (hB : 1 ≤ B.1) (hcs : cn ≤ B.2.1 ∧ sn ≤ B.2.2.1) (hcat : (st.map fun v => v.category).sum ≤ 8) (hd : decode M.2.1 pc = .ok (.invokestatic idx, 3)) (kk : V X M B σ R cn sn (pc + 3) L (vi z :: st)) : V X M B σ R cn sn pc L (vi b :: vi a :: st) := by
  obtain ⟨p, l, e, Rm, s, m, args, below, meth, c, N0, D, dA⟩ := X
  intro ok H locs ls hH hF hl
  have ok' := ok
  obtain ⟨o1, o2, o3, o4, o5, o6, o7, o8, o9, o10, o11, o12, o13, o14, o15⟩ := ok'
  refine va_mmax o1 o2 (o3.trans hl.1.symm) o5 (o6 _ hlk) (o6 _ w_mx.1) (o6 _ w_mx.2.1) (o6 _ w_mx.2.2) (Nat.le_trans hB o12) (by omega) (Nat.le_trans hcs.1 o14) (Nat.le_trans hcs.2 o15) hd ?_
  have e1 : (if iI a < iI b then iI b else iI a) = iI z := by
    rw [← hz]
    by_cases h : a < b
    · rw [if_pos ((iI_lt ra rb).mpr h), if_pos h]
    · rw [if_neg (fun q => h ((iI_lt ra rb).mp q)), if_neg h]
  rw [e1]
  exact kk ok H locs ls hH hF hl
theorem x_min {idx : Nat} {a b : Int} (z : Int) (hlk : Cond.methodLink M.1.cls idx Lib.Math.min.name ∈ xtb) (ra : -2147483648 ≤ a ∧ a < 2147483648) (rb : -2147483648 ≤ b ∧ b < 2147483648) (hz : (if b < a then b else a) = z) (hB : 1 ≤ B.1) (hcs : cn ≤ B.2.1 ∧ sn ≤ B.2.2.1) (hcat : (st.map fun v => v.category).sum ≤ 8) (hd : decode M.2.1 pc = .ok (.invokestatic idx, 3)) (kk : V X M B σ R cn sn (pc + 3) L (vi z :: st)) : V X M B σ R cn sn pc L (vi b :: vi a :: st) := by
  obtain ⟨p, l, e, Rm, s, m, args, below, meth, c, N0, D, dA⟩ := X
  intro ok H locs ls hH hF hl
  have ok' := ok
  obtain ⟨o1, o2, o3, o4, o5, o6, o7, o8, o9, o10, o11, o12, o13, o14, o15⟩ := ok'
  refine va_mmin o1 o2 (o3.trans hl.1.symm) o5 (o6 _ hlk) (o6 _ w_mn.1) (o6 _ w_mx.2.1) (o6 _ w_mn.2) (Nat.le_trans hB o12) (by omega) (Nat.le_trans hcs.1 o14) (Nat.le_trans hcs.2 o15) hd ?_
  have e1 : (if iI b < iI a then iI b else iI a) = iI z := by
    rw [← hz]
    by_cases h : b < a
    · rw [if_pos ((iI_lt rb ra).mpr h), if_pos h]
    · rw [if_neg (fun q => h ((iI_lt rb ra).mp q)), if_neg h]
  rw [e1]
  exact kk ok H locs ls hH hF hl
end XMM
set_option maxHeartbeats 4000000 in
set_option maxRecDepth 100000 in
theorem c_Pre_checkIndex {σ : xS} {R : xR} (i n : Int) (hi : 0 ≤ i ∧ i < n) (hn : n < 2147483648) : Ct m_Pre_checkIndex 1 0 0 [vi i, vi n, .null] σ R (Zi σ R i) := by
  refine Ct.of [some (vi i), some (vi n), some (.null)] rfl (by decide +kernel) (lr rfl) (fun X => ?_)
  refine x_iload_n d_Pre_checkIndex_0 0 rfl rfl ?_
  refine x_if_lt (tgt := 9) d_Pre_checkIndex_1 rfl (by omega) (fun c1 => ?_) (fun c1 => ?_)
  · omega
  · refine x_iload_n d_Pre_checkIndex_4 0 rfl rfl ?_
    refine x_iload_n d_Pre_checkIndex_5 1 rfl rfl ?_
    refine x_icmp_lt (tgt := 16) d_Pre_checkIndex_6 rfl (by omega) (by omega) (fun c6 => ?_) (fun c6 => ?_)
    · refine x_iload_n d_Pre_checkIndex_16 0 rfl rfl ?_
      exact x_iret d_Pre_checkIndex_17 rfl (lr rfl) (lr rfl) (⟨rfl, rfl, rfl⟩)
    · omega
set_option maxHeartbeats 4000000 in
set_option maxRecDepth 100000 in
theorem c_Objs_checkIndex {σ : xS} {R : xR} (i n : Int) (hi : 0 ≤ i ∧ i < n) (hn : n < 2147483648) : Ct m_Objs_checkIndex 2 0 0 [vi i, vi n] σ R (Zi σ R i) := by
  refine Ct.of [some (vi i), some (vi n)] rfl (by decide +kernel) (lr rfl) (fun X => ?_)
  refine x_iload_n d_Objs_checkIndex_0 0 rfl rfl ?_
  refine x_iload_n d_Objs_checkIndex_1 1 rfl rfl ?_
  refine x_null d_Objs_checkIndex_2 ?_
  refine x_csi  (As := [vi i, vi n, .null]) (c_Pre_checkIndex i n hi hn) cs_Objs_105 rfl rfl (lr rfl) d_Objs_checkIndex_3 (lr rfl) ⟨lr rfl, lr rfl⟩ ?_
  exact x_iret d_Objs_checkIndex_6 rfl (lr rfl) (lr rfl) (⟨rfl, rfl, rfl⟩)
set_option maxHeartbeats 4000000 in
set_option maxRecDepth 100000 in
theorem c_AL_size {σ : xS} {R : xR} (K e n : Int) (cap : Nat) (hA : alI σ R K e n cap) : Ct m_AL_size 1 0 0 [.ref (σ K).1] σ R (Zi σ R n) := by
  refine Ct.of [some (.ref ((σ K).1))] rfl (by decide +kernel) (lr rfl) (fun X => ?_)
  have hK := hA.1
  have hn1 := hA.2.1
  have hn2 := hA.2.2.1
  have hcp := hA.2.2.2.1
  refine x_aload_n d_AL_size_0 0 rfl rfl ?_
  refine x_geti K 1 1 n fl_AL_48 tk_4_1 hK rfl rfl hn1 d_AL_size_1 ?_
  exact x_iret d_AL_size_4 rfl (lr rfl) (lr rfl) (⟨rfl, rfl, rfl⟩)
set_option maxHeartbeats 4000000 in
set_option maxRecDepth 100000 in
theorem c_AL_isEmpty {σ : xS} {R : xR} (K e n : Int) (cap : Nat) (hA : alI σ R K e n cap) : Ct m_AL_isEmpty 1 0 0 [.ref (σ K).1] σ R (Zi σ R (if n = 0 then 1 else 0)) := by
  refine Ct.of [some (.ref ((σ K).1))] rfl (by decide +kernel) (lr rfl) (fun X => ?_)
  have hK := hA.1
  have hn1 := hA.2.1
  have hn2 := hA.2.2.1
  have hcp := hA.2.2.2.1
  refine x_aload_n d_AL_isEmpty_0 0 rfl rfl ?_
  refine x_geti K 1 1 n fl_AL_48 tk_4_1 hK rfl rfl hn1 d_AL_isEmpty_1 ?_
  refine x_if_ne (tgt := 11) d_AL_isEmpty_4 rfl (by omega) (fun c4 => ?_) (fun c4 => ?_)
  · refine x_iconst d_AL_isEmpty_11 ?_
    exact x_zret d_AL_isEmpty_12 rfl (narz (by omega)) (lr rfl) (lr rfl) (⟨by rw [if_neg (by omega)], rfl, rfl⟩)
  · refine x_iconst d_AL_isEmpty_7 ?_
    refine x_goto (tgt := 12) d_AL_isEmpty_8 rfl ?_
    exact x_zret d_AL_isEmpty_12 rfl (narz (by omega)) (lr rfl) (lr rfl) (⟨by rw [if_pos (by omega)], rfl, rfl⟩)
set_option maxHeartbeats 4000000 in
set_option maxRecDepth 100000 in
theorem c_AL_elementData {σ : xS} {R : xR} (K e n : Int) (cap : Nat) (hA : alI σ R K e n cap) (i : Int) (a : Nat) (hi : 0 ≤ i ∧ i < n) (hv : R e i = (a : Int) + 1) : Ct m_AL_elementData 1 0 0 [.ref (σ K).1, vi i] σ R (Za σ R (.ref a)) := by
  refine Ct.of [some (.ref ((σ K).1)), some (vi i)] rfl (by decide +kernel) (lr rfl) (fun X => ?_)
  have hK := hA.1
  have hn1 := hA.2.1
  have hn2 := hA.2.2.1
  have hcp := hA.2.2.2.1
  obtain ⟨hc0, heK, he, h0⟩ := hA.2.2.2.2.resolve_left (fun q => by have := q.1; omega)
  refine x_aload_n d_AL_elementData_0 0 rfl rfl ?_
  refine x_getr K 0 0 (((σ e).1 : Int) + 1) fl_AL_9 tk_4_0 hK rfl rfl h0 d_AL_elementData_1 ?_
  refine x_iload_n d_AL_elementData_4 1 rfl rfl ?_
  refine x_aald e (v := .ref a) he rfl ⟨by decide, rfl, by omega⟩ (by omega) (by show rz (R e i) = _; rw [hv]; rfl) d_AL_elementData_5 ?_
  exact x_aret d_AL_elementData_6 rfl (Or.inl ⟨_, rfl⟩) (Or.inr ⟨_, rfl⟩) (lr rfl) (lr rfl) (⟨rfl, rfl, rfl⟩)
set_option maxHeartbeats 4000000 in
set_option maxRecDepth 100000 in
theorem c_AL_get {σ : xS} {R : xR} (K e n : Int) (cap : Nat) (hA : alI σ R K e n cap) (i : Int) (a : Nat) (hi : 0 ≤ i ∧ i < n) (hv : R e i = (a : Int) + 1) : Ct m_AL_get 3 0 0 [.ref (σ K).1, vi i] σ R (Za σ R (.ref a)) := by
  refine Ct.of [some (.ref ((σ K).1)), some (vi i)] rfl (by decide +kernel) (lr rfl) (fun X => ?_)
  have hK := hA.1
  have hn1 := hA.2.1
  have hn2 := hA.2.2.1
  have hcp := hA.2.2.2.1
  have hthis := hA.rc
  refine x_iload_n d_AL_get_0 1 rfl rfl ?_
  refine x_aload_n d_AL_get_1 0 rfl rfl ?_
  refine x_geti K 1 1 n fl_AL_48 tk_4_1 hK rfl rfl hn1 d_AL_get_2 ?_
  refine x_csi  (As := [vi i, vi n]) (c_Objs_checkIndex i n hi (by omega)) cs_AL_118 rfl rfl (lr rfl) d_AL_get_5 (lr rfl) ⟨lr rfl, lr rfl⟩ ?_
  refine x_pop d_AL_get_8 rfl ?_
  refine x_aload_n d_AL_get_9 0 rfl rfl ?_
  refine x_iload_n d_AL_get_10 1 rfl rfl ?_
  refine x_cva K (As := [vi i]) (c_AL_elementData K e n cap hA i a hi hv) cs_AL_123 hthis rfl rfl (lr rfl) d_AL_get_11 (lr rfl) ⟨lr rfl, lr rfl⟩ ?_
  exact x_aret d_AL_get_14 rfl (Or.inl ⟨_, rfl⟩) (Or.inr ⟨_, rfl⟩) (lr rfl) (lr rfl) (⟨rfl, rfl, rfl⟩)
