/-! the law's methods that catch (printed by gen/wrap.py) -/
/-- what a catching method leaves: 0 and the value in out[0], or the exception's code -/
def wZ (Zd : xZ) (K : Addr → Nat → xS → xR → Prop) (cs : List (Nat × Int)) : xZ := fun o σ' R' => (∃ z R1, (-2147483648 ≤ z ∧ z < 2147483648) ∧ Zd (.returned (some (vi z))) σ' R1 ∧ R' = xup R1 60 0 z ∧ o = .returned (some (vi 0))) ∨ (∃ x q, Zd (.threw x) σ' R' ∧ q ∈ cs ∧ K x q.1 σ' R' ∧ o = .returned (some (vi q.2)))
theorem xi2l {a : Int} (h : -2147483648 ≤ a ∧ a < 2147483648) : (iI a).toInt64 = lI a := by
  rw [← Int64.toInt_inj, Int32.toInt_toInt64, iI_toInt h]
  unfold lI
  rw [Int64.toInt_ofInt, show Int64.size = 18446744073709551616 by rfl]
  exact (Int.bmod_eq_of_le (by omega) (by omega)).symm
theorem vi_inj {a b : Int} (ha : -2147483648 ≤ a ∧ a < 2147483648) (hb : -2147483648 ≤ b ∧ b < 2147483648) (h : Outcome.returned (some (vi a)) = Outcome.returned (some (vi b))) : a = b := by
  injection h with h
  injection h with h
  injection h with h
  rw [← iI_toInt ha, ← iI_toInt hb, h]
theorem wZ.no {Zd : xZ} {K : Addr → Nat → xS → xR → Prop} {cs : List (Nat × Int)} : ∀ x σ' R', ¬ wZ Zd K cs (.threw x) σ' R' := fun x σ' R' h => by
  rcases h with ⟨z, R1, -, -, -, h⟩ | ⟨y, q, -, -, -, h⟩ <;> cases h
set_option maxHeartbeats 4000000 in
theorem c_W_rule {σ : xS} {R : xR} (hD : dSh σ) (h60 : (σ 60).2 = (37, 1)) {d C S : Nat} {Zd : xZ} (K : Addr → Nat → xS → xR → Prop) (ct : CtT m_D_rule d C S [.ref (σ 1).1] σ R Zd) (hret : ∀ r σ' R', Zd (.returned r) σ' R' → ∃ z, r = some (vi z) ∧ (-2147483648 ≤ z ∧ z < 2147483648) ∧ σ' 60 = σ 60) (hthr : ∀ x σ' R', Zd (.threw x) σ' R' → ∃ q ∈ ([(8, 1), (9, 2)] : List (Nat × Int)), thr (.threw x) σ' q.1 ∧ K x q.1 σ' R') : CtW m_W_rule [(0, 8, 11, 13), (0, 8, 14, 15)] (d + 1) C S [.ref (σ 1).1, .ref (σ 60).1] σ R (wZ Zd K [(8, 1), (9, 2)]) := by
  refine CtW.of (by decide) [some (.ref (σ 1).1), some (.ref (σ 60).1), none] rfl (by decide +kernel) (lr rfl) (fun X hX => ?_)
  refine x_aload_n d_W_rule_0 1 rfl rfl ?_
  refine x_iconst d_W_rule_1 ?_
  refine x_aload_n d_W_rule_2 0 rfl rfl ?_
  refine x_callVT 1 (As := []) ct cs_W_7 (thisD hD) rfl rfl (lr rfl) d_W_rule_3 (Nat.le_refl _) ⟨by show 0 + C ≤ C; omega, by show 0 + S ≤ S; omega⟩ (fun r σ2 R2 hz => ?_) (fun x σ2 R2 hz => ?_)
  · obtain ⟨z, hr, hzr, h6⟩ := hret r σ2 R2 hz
    subst hr
    refine x_i2l d_W_rule_6 (xi2l hzr) ?_
    refine x_last 60 (t := 37) (n := 1) (by rw [h6]; exact h60) (by rw [h6]) ⟨by decide, rfl, by decide⟩ rfl (by omega) d_W_rule_7 (fun R3 hR3 => ?_)
    refine x_goto (tgt := 17) d_W_rule_8 rfl ?_
    refine x_iconst d_W_rule_17 ?_
    exact x_iret d_W_rule_18 rfl (by show 0 + C ≤ C; omega) (by show 0 + S ≤ S; omega) (Or.inl ⟨z, R2, hzr, hz, hR3, rfl⟩)
  · obtain ⟨q, hq, ⟨y, k, hy, hk1, hk2⟩, hK⟩ := hthr x σ2 R2 hz
    have hyx : y = x := by injection hy with h; exact h.symm
    have hq' : q = (8, 1) ∨ q = (9, 2) := by simpa using hq
    rcases hq' with rfl | rfl
    · refine Vt.catch k (pre := []) (post := [(0, 8, 14, 15)]) (h := (0, 8, 11, 13)) (ci := 7) hX hk1 (hk2.trans hyx) (by decide) rfl (fun y hy => by cases hy) ⟨by decide, by decide, xin 306 (by decide +kernel) (by decide +kernel), by decide +kernel⟩ ?_
      refine x_astore_n d_W_rule_11 2 rfl [some (.ref (σ 1).1), some (.ref (σ 60).1), some (.ref x)] rfl rfl (lr rfl) ?_
      refine x_iconst d_W_rule_12 ?_
      exact x_iret d_W_rule_13 rfl (by show 0 + C ≤ C; omega) (by show 0 + S ≤ S; omega) (Or.inr ⟨x, (8, 1), hz, by simp, hK, rfl⟩)
    · refine Vt.catch k (pre := [(0, 8, 11, 13)]) (post := []) (h := (0, 8, 14, 15)) (ci := 8) hX hk1 (hk2.trans hyx) (by decide) rfl (fun y hy => ?_) ⟨by decide, by decide, xin 307 (by decide +kernel) (by decide +kernel), by decide +kernel⟩ ?_
      · have hy' : y = (0, 8, 11, 13) := by simpa using hy
        rcases hy' with rfl
        · exact ⟨by decide, by decide, "java/lang/IllegalArgumentException", xin 306 (by decide +kernel) (by decide +kernel), by decide +kernel⟩
      · refine x_astore_n d_W_rule_14 2 rfl [some (.ref (σ 1).1), some (.ref (σ 60).1), some (.ref x)] rfl rfl (lr rfl) ?_
        refine x_iconst d_W_rule_15 ?_
        exact x_iret d_W_rule_16 rfl (by show 0 + C ≤ C; omega) (by show 0 + S ≤ S; omega) (Or.inr ⟨x, (9, 2), hz, by simp, hK, rfl⟩)
set_option maxHeartbeats 4000000 in
theorem c_W_compile {σ : xS} {R : xR} (hD : dSh σ) (h60 : (σ 60).2 = (37, 1)) {d C S : Nat} {Zd : xZ} (K : Addr → Nat → xS → xR → Prop) (ct : CtT m_D_compile d C S [.ref (σ 1).1] σ R Zd) (hret : ∀ r σ' R', Zd (.returned r) σ' R' → ∃ z, r = some (vi z) ∧ (-2147483648 ≤ z ∧ z < 2147483648) ∧ σ' 60 = σ 60) (hthr : ∀ x σ' R', Zd (.threw x) σ' R' → ∃ q ∈ ([(9, 1), (10, 2)] : List (Nat × Int)), thr (.threw x) σ' q.1 ∧ K x q.1 σ' R') : CtW m_W_compile [(0, 8, 11, 15), (0, 8, 14, 20)] (d + 1) C S [.ref (σ 1).1, .ref (σ 60).1] σ R (wZ Zd K [(9, 1), (10, 2)]) := by
  refine CtW.of (by decide) [some (.ref (σ 1).1), some (.ref (σ 60).1), none] rfl (by decide +kernel) (lr rfl) (fun X hX => ?_)
  refine x_aload_n d_W_compile_0 1 rfl rfl ?_
  refine x_iconst d_W_compile_1 ?_
  refine x_aload_n d_W_compile_2 0 rfl rfl ?_
  refine x_callVT 1 (As := []) ct cs_W_17 (thisD hD) rfl rfl (lr rfl) d_W_compile_3 (Nat.le_refl _) ⟨by show 0 + C ≤ C; omega, by show 0 + S ≤ S; omega⟩ (fun r σ2 R2 hz => ?_) (fun x σ2 R2 hz => ?_)
  · obtain ⟨z, hr, hzr, h6⟩ := hret r σ2 R2 hz
    subst hr
    refine x_i2l d_W_compile_6 (xi2l hzr) ?_
    refine x_last 60 (t := 37) (n := 1) (by rw [h6]; exact h60) (by rw [h6]) ⟨by decide, rfl, by decide⟩ rfl (by omega) d_W_compile_7 (fun R3 hR3 => ?_)
    refine x_goto (tgt := 17) d_W_compile_8 rfl ?_
    refine x_iconst d_W_compile_17 ?_
    exact x_iret d_W_compile_18 rfl (by show 0 + C ≤ C; omega) (by show 0 + S ≤ S; omega) (Or.inl ⟨z, R2, hzr, hz, hR3, rfl⟩)
  · obtain ⟨q, hq, ⟨y, k, hy, hk1, hk2⟩, hK⟩ := hthr x σ2 R2 hz
    have hyx : y = x := by injection hy with h; exact h.symm
    have hq' : q = (9, 1) ∨ q = (10, 2) := by simpa using hq
    rcases hq' with rfl | rfl
    · refine Vt.catch k (pre := []) (post := [(0, 8, 14, 20)]) (h := (0, 8, 11, 15)) (ci := 8) hX hk1 (hk2.trans hyx) (by decide) rfl (fun y hy => by cases hy) ⟨by decide, by decide, xin 307 (by decide +kernel) (by decide +kernel), by decide +kernel⟩ ?_
      refine x_astore_n d_W_compile_11 2 rfl [some (.ref (σ 1).1), some (.ref (σ 60).1), some (.ref x)] rfl rfl (lr rfl) ?_
      refine x_iconst d_W_compile_12 ?_
      exact x_iret d_W_compile_13 rfl (by show 0 + C ≤ C; omega) (by show 0 + S ≤ S; omega) (Or.inr ⟨x, (9, 1), hz, by simp, hK, rfl⟩)
    · refine Vt.catch k (pre := [(0, 8, 11, 15)]) (post := []) (h := (0, 8, 14, 20)) (ci := 9) hX hk1 (hk2.trans hyx) (by decide) rfl (fun y hy => ?_) ⟨by decide, by decide, xin 670 (by decide +kernel) (by decide +kernel), by decide +kernel⟩ ?_
      · have hy' : y = (0, 8, 11, 15) := by simpa using hy
        rcases hy' with rfl
        · exact ⟨by decide, by decide, "java/lang/IllegalStateException", xin 307 (by decide +kernel) (by decide +kernel), by decide +kernel⟩
      · refine x_astore_n d_W_compile_14 2 rfl [some (.ref (σ 1).1), some (.ref (σ 60).1), some (.ref x)] rfl rfl (lr rfl) ?_
        refine x_iconst d_W_compile_15 ?_
        exact x_iret d_W_compile_16 rfl (by show 0 + C ≤ C; omega) (by show 0 + S ≤ S; omega) (Or.inr ⟨x, (10, 2), hz, by simp, hK, rfl⟩)
set_option maxHeartbeats 4000000 in
theorem c_W_text {σ : xS} {R : xR} (hD : dSh σ) (h60 : (σ 60).2 = (37, 1)) {d C S : Nat} {Zd : xZ} (K : Addr → Nat → xS → xR → Prop) (ct : CtT m_D_text d C S [.ref (σ 1).1] σ R Zd) (hret : ∀ r σ' R', Zd (.returned r) σ' R' → ∃ z, r = some (vi z) ∧ (-2147483648 ≤ z ∧ z < 2147483648) ∧ σ' 60 = σ 60) (hthr : ∀ x σ' R', Zd (.threw x) σ' R' → ∃ q ∈ ([(8, 1)] : List (Nat × Int)), thr (.threw x) σ' q.1 ∧ K x q.1 σ' R') : CtW m_W_text [(0, 8, 11, 13)] (d + 1) C S [.ref (σ 1).1, .ref (σ 60).1] σ R (wZ Zd K [(8, 1)]) := by
  refine CtW.of (by decide) [some (.ref (σ 1).1), some (.ref (σ 60).1), none] rfl (by decide +kernel) (lr rfl) (fun X hX => ?_)
  refine x_aload_n d_W_text_0 1 rfl rfl ?_
  refine x_iconst d_W_text_1 ?_
  refine x_aload_n d_W_text_2 0 rfl rfl ?_
  refine x_callVT 1 (As := []) ct cs_W_22 (thisD hD) rfl rfl (lr rfl) d_W_text_3 (Nat.le_refl _) ⟨by show 0 + C ≤ C; omega, by show 0 + S ≤ S; omega⟩ (fun r σ2 R2 hz => ?_) (fun x σ2 R2 hz => ?_)
  · obtain ⟨z, hr, hzr, h6⟩ := hret r σ2 R2 hz
    subst hr
    refine x_i2l d_W_text_6 (xi2l hzr) ?_
    refine x_last 60 (t := 37) (n := 1) (by rw [h6]; exact h60) (by rw [h6]) ⟨by decide, rfl, by decide⟩ rfl (by omega) d_W_text_7 (fun R3 hR3 => ?_)
    refine x_goto (tgt := 14) d_W_text_8 rfl ?_
    refine x_iconst d_W_text_14 ?_
    exact x_iret d_W_text_15 rfl (by show 0 + C ≤ C; omega) (by show 0 + S ≤ S; omega) (Or.inl ⟨z, R2, hzr, hz, hR3, rfl⟩)
  · obtain ⟨q, hq, ⟨y, k, hy, hk1, hk2⟩, hK⟩ := hthr x σ2 R2 hz
    have hyx : y = x := by injection hy with h; exact h.symm
    have hq' : q = (8, 1) := by simpa using hq
    rcases hq' with rfl
    · refine Vt.catch k (pre := []) (post := []) (h := (0, 8, 11, 13)) (ci := 7) hX hk1 (hk2.trans hyx) (by decide) rfl (fun y hy => by cases hy) ⟨by decide, by decide, xin 306 (by decide +kernel) (by decide +kernel), by decide +kernel⟩ ?_
      refine x_astore_n d_W_text_11 2 rfl [some (.ref (σ 1).1), some (.ref (σ 60).1), some (.ref x)] rfl rfl (lr rfl) ?_
      refine x_iconst d_W_text_12 ?_
      exact x_iret d_W_text_13 rfl (by show 0 + C ≤ C; omega) (by show 0 + S ≤ S; omega) (Or.inr ⟨x, (8, 1), hz, by simp, hK, rfl⟩)
set_option maxHeartbeats 4000000 in
theorem c_W_parse {σ : xS} {R : xR} (hD : dSh σ) (h60 : (σ 60).2 = (37, 1)) {d C S : Nat} {Zd : xZ} (K : Addr → Nat → xS → xR → Prop) (ct : CtT m_D_parse d C S [.ref (σ 1).1] σ R Zd) (hret : ∀ r σ' R', Zd (.returned r) σ' R' → ∃ z, r = some (vi z) ∧ (-2147483648 ≤ z ∧ z < 2147483648) ∧ σ' 60 = σ 60) (hthr : ∀ x σ' R', Zd (.threw x) σ' R' → ∃ q ∈ ([(9, 1)] : List (Nat × Int)), thr (.threw x) σ' q.1 ∧ K x q.1 σ' R') : CtW m_W_parse [(0, 8, 11, 15)] (d + 1) C S [.ref (σ 1).1, .ref (σ 60).1] σ R (wZ Zd K [(9, 1)]) := by
  refine CtW.of (by decide) [some (.ref (σ 1).1), some (.ref (σ 60).1), none] rfl (by decide +kernel) (lr rfl) (fun X hX => ?_)
  refine x_aload_n d_W_parse_0 1 rfl rfl ?_
  refine x_iconst d_W_parse_1 ?_
  refine x_aload_n d_W_parse_2 0 rfl rfl ?_
  refine x_callVT 1 (As := []) ct cs_W_25 (thisD hD) rfl rfl (lr rfl) d_W_parse_3 (Nat.le_refl _) ⟨by show 0 + C ≤ C; omega, by show 0 + S ≤ S; omega⟩ (fun r σ2 R2 hz => ?_) (fun x σ2 R2 hz => ?_)
  · obtain ⟨z, hr, hzr, h6⟩ := hret r σ2 R2 hz
    subst hr
    refine x_i2l d_W_parse_6 (xi2l hzr) ?_
    refine x_last 60 (t := 37) (n := 1) (by rw [h6]; exact h60) (by rw [h6]) ⟨by decide, rfl, by decide⟩ rfl (by omega) d_W_parse_7 (fun R3 hR3 => ?_)
    refine x_goto (tgt := 14) d_W_parse_8 rfl ?_
    refine x_iconst d_W_parse_14 ?_
    exact x_iret d_W_parse_15 rfl (by show 0 + C ≤ C; omega) (by show 0 + S ≤ S; omega) (Or.inl ⟨z, R2, hzr, hz, hR3, rfl⟩)
  · obtain ⟨q, hq, ⟨y, k, hy, hk1, hk2⟩, hK⟩ := hthr x σ2 R2 hz
    have hyx : y = x := by injection hy with h; exact h.symm
    have hq' : q = (9, 1) := by simpa using hq
    rcases hq' with rfl
    · refine Vt.catch k (pre := []) (post := []) (h := (0, 8, 11, 15)) (ci := 8) hX hk1 (hk2.trans hyx) (by decide) rfl (fun y hy => by cases hy) ⟨by decide, by decide, xin 307 (by decide +kernel) (by decide +kernel), by decide +kernel⟩ ?_
      refine x_astore_n d_W_parse_11 2 rfl [some (.ref (σ 1).1), some (.ref (σ 60).1), some (.ref x)] rfl rfl (lr rfl) ?_
      refine x_iconst d_W_parse_12 ?_
      exact x_iret d_W_parse_13 rfl (by show 0 + C ≤ C; omega) (by show 0 + S ≤ S; omega) (Or.inr ⟨x, (9, 1), hz, by simp, hK, rfl⟩)
set_option maxHeartbeats 4000000 in
theorem c_W_repair {σ : xS} {R : xR} (hD : dSh σ) (p0 : Int) (h60 : (σ 60).2 = (37, 1)) {d C S : Nat} {Zd : xZ} (K : Addr → Nat → xS → xR → Prop) (ct : CtT m_D_repair d C S [.ref (σ 1).1, vi p0] σ R Zd) (hret : ∀ r σ' R', Zd (.returned r) σ' R' → ∃ z, r = some (vi z) ∧ (-2147483648 ≤ z ∧ z < 2147483648) ∧ σ' 60 = σ 60) (hthr : ∀ x σ' R', Zd (.threw x) σ' R' → ∃ q ∈ ([(9, 1), (8, 2), (10, 3)] : List (Nat × Int)), thr (.threw x) σ' q.1 ∧ K x q.1 σ' R') : CtW m_W_repair [(0, 9, 12, 15), (0, 9, 15, 13), (0, 9, 18, 20)] (d + 1) C S [.ref (σ 1).1, vi p0, .ref (σ 60).1] σ R (wZ Zd K [(9, 1), (8, 2), (10, 3)]) := by
  refine CtW.of (by decide) [some (.ref (σ 1).1), some (vi p0), some (.ref (σ 60).1), none] rfl (by decide +kernel) (lr rfl) (fun X hX => ?_)
  refine x_aload_n d_W_repair_0 2 rfl rfl ?_
  refine x_iconst d_W_repair_1 ?_
  refine x_aload_n d_W_repair_2 0 rfl rfl ?_
  refine x_iload_n d_W_repair_3 1 rfl rfl ?_
  refine x_callVT 1 (As := [vi p0]) ct cs_W_28 (thisD hD) rfl rfl (lr rfl) d_W_repair_4 (Nat.le_refl _) ⟨by show 0 + C ≤ C; omega, by show 0 + S ≤ S; omega⟩ (fun r σ2 R2 hz => ?_) (fun x σ2 R2 hz => ?_)
  · obtain ⟨z, hr, hzr, h6⟩ := hret r σ2 R2 hz
    subst hr
    refine x_i2l d_W_repair_7 (xi2l hzr) ?_
    refine x_last 60 (t := 37) (n := 1) (by rw [h6]; exact h60) (by rw [h6]) ⟨by decide, rfl, by decide⟩ rfl (by omega) d_W_repair_8 (fun R3 hR3 => ?_)
    refine x_goto (tgt := 21) d_W_repair_9 rfl ?_
    refine x_iconst d_W_repair_21 ?_
    exact x_iret d_W_repair_22 rfl (by show 0 + C ≤ C; omega) (by show 0 + S ≤ S; omega) (Or.inl ⟨z, R2, hzr, hz, hR3, rfl⟩)
  · obtain ⟨q, hq, ⟨y, k, hy, hk1, hk2⟩, hK⟩ := hthr x σ2 R2 hz
    have hyx : y = x := by injection hy with h; exact h.symm
    have hq' : q = (9, 1) ∨ q = (8, 2) ∨ q = (10, 3) := by simpa using hq
    rcases hq' with rfl | rfl | rfl
    · refine Vt.catch k (pre := []) (post := [(0, 9, 15, 13), (0, 9, 18, 20)]) (h := (0, 9, 12, 15)) (ci := 8) hX hk1 (hk2.trans hyx) (by decide) rfl (fun y hy => by cases hy) ⟨by decide, by decide, xin 307 (by decide +kernel) (by decide +kernel), by decide +kernel⟩ ?_
      refine x_astore_n d_W_repair_12 3 rfl [some (.ref (σ 1).1), some (vi p0), some (.ref (σ 60).1), some (.ref x)] rfl rfl (lr rfl) ?_
      refine x_iconst d_W_repair_13 ?_
      exact x_iret d_W_repair_14 rfl (by show 0 + C ≤ C; omega) (by show 0 + S ≤ S; omega) (Or.inr ⟨x, (9, 1), hz, by simp, hK, rfl⟩)
    · refine Vt.catch k (pre := [(0, 9, 12, 15)]) (post := [(0, 9, 18, 20)]) (h := (0, 9, 15, 13)) (ci := 7) hX hk1 (hk2.trans hyx) (by decide) rfl (fun y hy => ?_) ⟨by decide, by decide, xin 306 (by decide +kernel) (by decide +kernel), by decide +kernel⟩ ?_
      · have hy' : y = (0, 9, 12, 15) := by simpa using hy
        rcases hy' with rfl
        · exact ⟨by decide, by decide, "java/lang/IllegalStateException", xin 307 (by decide +kernel) (by decide +kernel), by decide +kernel⟩
      · refine x_astore_n d_W_repair_15 3 rfl [some (.ref (σ 1).1), some (vi p0), some (.ref (σ 60).1), some (.ref x)] rfl rfl (lr rfl) ?_
        refine x_iconst d_W_repair_16 ?_
        exact x_iret d_W_repair_17 rfl (by show 0 + C ≤ C; omega) (by show 0 + S ≤ S; omega) (Or.inr ⟨x, (8, 2), hz, by simp, hK, rfl⟩)
    · refine Vt.catch k (pre := [(0, 9, 12, 15), (0, 9, 15, 13)]) (post := []) (h := (0, 9, 18, 20)) (ci := 9) hX hk1 (hk2.trans hyx) (by decide) rfl (fun y hy => ?_) ⟨by decide, by decide, xin 670 (by decide +kernel) (by decide +kernel), by decide +kernel⟩ ?_
      · have hy' : y = (0, 9, 12, 15) ∨ y = (0, 9, 15, 13) := by simpa using hy
        rcases hy' with rfl | rfl
        · exact ⟨by decide, by decide, "java/lang/IllegalStateException", xin 307 (by decide +kernel) (by decide +kernel), by decide +kernel⟩
        · exact ⟨by decide, by decide, "java/lang/IllegalArgumentException", xin 306 (by decide +kernel) (by decide +kernel), by decide +kernel⟩
      · refine x_astore_n d_W_repair_18 3 rfl [some (.ref (σ 1).1), some (vi p0), some (.ref (σ 60).1), some (.ref x)] rfl rfl (lr rfl) ?_
        refine x_iconst d_W_repair_19 ?_
        exact x_iret d_W_repair_20 rfl (by show 0 + C ≤ C; omega) (by show 0 + S ≤ S; omega) (Or.inr ⟨x, (10, 3), hz, by simp, hK, rfl⟩)
set_option maxHeartbeats 4000000 in
theorem c_W_reach {σ : xS} {R : xR} (hD : dSh σ) (p0 : Int) (h60 : (σ 60).2 = (37, 1)) {d C S : Nat} {Zd : xZ} (K : Addr → Nat → xS → xR → Prop) (ct : CtT m_D_reach d C S [.ref (σ 1).1, vi p0] σ R Zd) (hret : ∀ r σ' R', Zd (.returned r) σ' R' → ∃ z, r = some (vi z) ∧ (-2147483648 ≤ z ∧ z < 2147483648) ∧ σ' 60 = σ 60) (hthr : ∀ x σ' R', Zd (.threw x) σ' R' → ∃ q ∈ ([(11, 1)] : List (Nat × Int)), thr (.threw x) σ' q.1 ∧ K x q.1 σ' R') : CtW m_W_reach [(0, 9, 12, 35)] (d + 1) C S [.ref (σ 1).1, vi p0, .ref (σ 60).1] σ R (wZ Zd K [(11, 1)]) := by
  refine CtW.of (by decide) [some (.ref (σ 1).1), some (vi p0), some (.ref (σ 60).1), none] rfl (by decide +kernel) (lr rfl) (fun X hX => ?_)
  refine x_aload_n d_W_reach_0 2 rfl rfl ?_
  refine x_iconst d_W_reach_1 ?_
  refine x_aload_n d_W_reach_2 0 rfl rfl ?_
  refine x_iload_n d_W_reach_3 1 rfl rfl ?_
  refine x_callVT 1 (As := [vi p0]) ct cs_W_32 (thisD hD) rfl rfl (lr rfl) d_W_reach_4 (Nat.le_refl _) ⟨by show 0 + C ≤ C; omega, by show 0 + S ≤ S; omega⟩ (fun r σ2 R2 hz => ?_) (fun x σ2 R2 hz => ?_)
  · obtain ⟨z, hr, hzr, h6⟩ := hret r σ2 R2 hz
    subst hr
    refine x_i2l d_W_reach_7 (xi2l hzr) ?_
    refine x_last 60 (t := 37) (n := 1) (by rw [h6]; exact h60) (by rw [h6]) ⟨by decide, rfl, by decide⟩ rfl (by omega) d_W_reach_8 (fun R3 hR3 => ?_)
    refine x_goto (tgt := 15) d_W_reach_9 rfl ?_
    refine x_iconst d_W_reach_15 ?_
    exact x_iret d_W_reach_16 rfl (by show 0 + C ≤ C; omega) (by show 0 + S ≤ S; omega) (Or.inl ⟨z, R2, hzr, hz, hR3, rfl⟩)
  · obtain ⟨q, hq, ⟨y, k, hy, hk1, hk2⟩, hK⟩ := hthr x σ2 R2 hz
    have hyx : y = x := by injection hy with h; exact h.symm
    have hq' : q = (11, 1) := by simpa using hq
    rcases hq' with rfl
    · refine Vt.catch k (pre := []) (post := []) (h := (0, 9, 12, 35)) (ci := 10) hX hk1 (hk2.trans hyx) (by decide) rfl (fun y hy => by cases hy) ⟨by decide, by decide, xin 824 (by decide +kernel) (by decide +kernel), by decide +kernel⟩ ?_
      refine x_astore_n d_W_reach_12 3 rfl [some (.ref (σ 1).1), some (vi p0), some (.ref (σ 60).1), some (.ref x)] rfl rfl (lr rfl) ?_
      refine x_iconst d_W_reach_13 ?_
      exact x_iret d_W_reach_14 rfl (by show 0 + C ≤ C; omega) (by show 0 + S ≤ S; omega) (Or.inr ⟨x, (11, 1), hz, by simp, hK, rfl⟩)
set_option maxHeartbeats 4000000 in
theorem c_W_apply {σ : xS} {R : xR} (hD : dSh σ) (p0 : Int) (h60 : (σ 60).2 = (37, 1)) {d C S : Nat} {Zd : xZ} (K : Addr → Nat → xS → xR → Prop) (ct : CtT m_D_apply d C S [.ref (σ 1).1, vi p0] σ R Zd) (hret : ∀ r σ' R', Zd (.returned r) σ' R' → ∃ z, r = some (vi z) ∧ (-2147483648 ≤ z ∧ z < 2147483648) ∧ σ' 60 = σ 60) (hthr : ∀ x σ' R', Zd (.threw x) σ' R' → ∃ q ∈ ([(11, 1), (9, 2)] : List (Nat × Int)), thr (.threw x) σ' q.1 ∧ K x q.1 σ' R') : CtW m_W_apply [(0, 9, 12, 35), (0, 9, 15, 15)] (d + 1) C S [.ref (σ 1).1, vi p0, .ref (σ 60).1] σ R (wZ Zd K [(11, 1), (9, 2)]) := by
  refine CtW.of (by decide) [some (.ref (σ 1).1), some (vi p0), some (.ref (σ 60).1), none] rfl (by decide +kernel) (lr rfl) (fun X hX => ?_)
  refine x_aload_n d_W_apply_0 2 rfl rfl ?_
  refine x_iconst d_W_apply_1 ?_
  refine x_aload_n d_W_apply_2 0 rfl rfl ?_
  refine x_iload_n d_W_apply_3 1 rfl rfl ?_
  refine x_callVT 1 (As := [vi p0]) ct cs_W_37 (thisD hD) rfl rfl (lr rfl) d_W_apply_4 (Nat.le_refl _) ⟨by show 0 + C ≤ C; omega, by show 0 + S ≤ S; omega⟩ (fun r σ2 R2 hz => ?_) (fun x σ2 R2 hz => ?_)
  · obtain ⟨z, hr, hzr, h6⟩ := hret r σ2 R2 hz
    subst hr
    refine x_i2l d_W_apply_7 (xi2l hzr) ?_
    refine x_last 60 (t := 37) (n := 1) (by rw [h6]; exact h60) (by rw [h6]) ⟨by decide, rfl, by decide⟩ rfl (by omega) d_W_apply_8 (fun R3 hR3 => ?_)
    refine x_goto (tgt := 18) d_W_apply_9 rfl ?_
    refine x_iconst d_W_apply_18 ?_
    exact x_iret d_W_apply_19 rfl (by show 0 + C ≤ C; omega) (by show 0 + S ≤ S; omega) (Or.inl ⟨z, R2, hzr, hz, hR3, rfl⟩)
  · obtain ⟨q, hq, ⟨y, k, hy, hk1, hk2⟩, hK⟩ := hthr x σ2 R2 hz
    have hyx : y = x := by injection hy with h; exact h.symm
    have hq' : q = (11, 1) ∨ q = (9, 2) := by simpa using hq
    rcases hq' with rfl | rfl
    · refine Vt.catch k (pre := []) (post := [(0, 9, 15, 15)]) (h := (0, 9, 12, 35)) (ci := 10) hX hk1 (hk2.trans hyx) (by decide) rfl (fun y hy => by cases hy) ⟨by decide, by decide, xin 824 (by decide +kernel) (by decide +kernel), by decide +kernel⟩ ?_
      refine x_astore_n d_W_apply_12 3 rfl [some (.ref (σ 1).1), some (vi p0), some (.ref (σ 60).1), some (.ref x)] rfl rfl (lr rfl) ?_
      refine x_iconst d_W_apply_13 ?_
      exact x_iret d_W_apply_14 rfl (by show 0 + C ≤ C; omega) (by show 0 + S ≤ S; omega) (Or.inr ⟨x, (11, 1), hz, by simp, hK, rfl⟩)
    · refine Vt.catch k (pre := [(0, 9, 12, 35)]) (post := []) (h := (0, 9, 15, 15)) (ci := 8) hX hk1 (hk2.trans hyx) (by decide) rfl (fun y hy => ?_) ⟨by decide, by decide, xin 307 (by decide +kernel) (by decide +kernel), by decide +kernel⟩ ?_
      · have hy' : y = (0, 9, 12, 35) := by simpa using hy
        rcases hy' with rfl
        · exact ⟨by decide, by decide, "java/util/NoSuchElementException", xin 824 (by decide +kernel) (by decide +kernel), by decide +kernel⟩
      · refine x_astore_n d_W_apply_15 3 rfl [some (.ref (σ 1).1), some (vi p0), some (.ref (σ 60).1), some (.ref x)] rfl rfl (lr rfl) ?_
        refine x_iconst d_W_apply_16 ?_
        exact x_iret d_W_apply_17 rfl (by show 0 + C ≤ C; omega) (by show 0 + S ≤ S; omega) (Or.inr ⟨x, (9, 2), hz, by simp, hK, rfl⟩)
