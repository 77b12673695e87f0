/-! the law: thrown, and out[0] (printed by gen/tails.py) -/
theorem lcmp_rf (b : Int) : lg_cmp (lI b) (lI b) = iI 0 := by
  unfold lg_cmp
  simp
  rfl
section LTAIL
variable {X : xCtx} {σ : xS} {R : xR}
set_option maxHeartbeats 1000000 in
theorem t_rule (hM : xsh σ mshape) (h60 : (σ 60).2 = (37, 1)) (i k b : Int) (hk : 0 ≤ k ∧ k ≤ 3) (hf : R 30 0 = k) (hb : k = 0 → R 60 0 = b) (hbr : k = 0 → (-2147483648 ≤ b ∧ b < 2147483648)) (cn sn : Nat) (hcn : cn ≤ 600096) (hsn : sn ≤ 7301386) (nx : V X m_L lB σ R cn sn 640 (lL σ i none none) []) : V X m_L lB σ R cn sn 144 (lL σ i (some (vi k)) (some (vi b))) [] := by
  have fin : V X m_L lB σ R cn sn 172 (lL σ i (some (vi k)) (some (vi b))) [] := by
    refine x_goto (tgt := 640) d_L_172 rfl ?_
    refine V.forget 5 (lL σ i none (some (vi b))) rfl ?_
    exact V.forget 6 (lL σ i none none) rfl nx
  refine x_aload_n d_L_144 2 rfl rfl ?_
  refine x_cvi 30 (As := []) (c_P_thrown hM) cs_W_55 (thisM hM) rfl rfl (lr rfl) d_L_145 (lr rfl) ⟨hcn, hsn⟩ ?_
  rw [hf]
  refine x_iload d_L_148 rfl ?_
  refine x_icmp_eq (tgt := 155) d_L_150 rfl (by omega) (by omega) (fun c => ?_) (fun c => absurd rfl c)
  refine x_iload d_L_155 rfl ?_
  refine x_if_ne (tgt := 172) d_L_157 rfl (by omega) (fun c2 => fin) (fun c2 => ?_)
  have hk0 : k = 0 := by omega
  refine x_aload_n d_L_160 3 rfl rfl ?_
  refine x_iconst d_L_161 ?_
  refine x_lald 60 b h60 rfl ⟨by decide, rfl, by decide⟩ rfl (by omega) (hb hk0) d_L_162 ?_
  refine x_iload d_L_163 rfl ?_
  refine x_i2l d_L_165 (xi2l (hbr hk0)) ?_
  refine x_lcmp d_L_166 0 (lcmp_rf b) ?_
  exact x_if_eq (tgt := 172) d_L_167 rfl (by omega) (fun c3 => fin) (fun c3 => absurd rfl c3)
set_option maxHeartbeats 1000000 in
theorem t_compile (hM : xsh σ mshape) (h60 : (σ 60).2 = (37, 1)) (i k b : Int) (hk : 0 ≤ k ∧ k ≤ 3) (hf : R 30 0 = k) (hb : k = 0 → R 60 0 = b) (hbr : k = 0 → (-2147483648 ≤ b ∧ b < 2147483648)) (cn sn : Nat) (hcn : cn ≤ 600096) (hsn : sn ≤ 7301386) (nx : V X m_L lB σ R cn sn 640 (lL σ i none none) []) : V X m_L lB σ R cn sn 188 (lL σ i (some (vi k)) (some (vi b))) [] := by
  have fin : V X m_L lB σ R cn sn 216 (lL σ i (some (vi k)) (some (vi b))) [] := by
    refine x_goto (tgt := 640) d_L_216 rfl ?_
    refine V.forget 5 (lL σ i none (some (vi b))) rfl ?_
    exact V.forget 6 (lL σ i none none) rfl nx
  refine x_aload_n d_L_188 2 rfl rfl ?_
  refine x_cvi 30 (As := []) (c_P_thrown hM) cs_W_55 (thisM hM) rfl rfl (lr rfl) d_L_189 (lr rfl) ⟨hcn, hsn⟩ ?_
  rw [hf]
  refine x_iload d_L_192 rfl ?_
  refine x_icmp_eq (tgt := 199) d_L_194 rfl (by omega) (by omega) (fun c => ?_) (fun c => absurd rfl c)
  refine x_iload d_L_199 rfl ?_
  refine x_if_ne (tgt := 216) d_L_201 rfl (by omega) (fun c2 => fin) (fun c2 => ?_)
  have hk0 : k = 0 := by omega
  refine x_aload_n d_L_204 3 rfl rfl ?_
  refine x_iconst d_L_205 ?_
  refine x_lald 60 b h60 rfl ⟨by decide, rfl, by decide⟩ rfl (by omega) (hb hk0) d_L_206 ?_
  refine x_iload d_L_207 rfl ?_
  refine x_i2l d_L_209 (xi2l (hbr hk0)) ?_
  refine x_lcmp d_L_210 0 (lcmp_rf b) ?_
  exact x_if_eq (tgt := 216) d_L_211 rfl (by omega) (fun c3 => fin) (fun c3 => absurd rfl c3)
set_option maxHeartbeats 1000000 in
theorem t_text (hM : xsh σ mshape) (h60 : (σ 60).2 = (37, 1)) (i k b : Int) (hk : 0 ≤ k ∧ k ≤ 3) (hf : R 30 0 = k) (hb : k = 0 → R 60 0 = b) (hbr : k = 0 → (-2147483648 ≤ b ∧ b < 2147483648)) (cn sn : Nat) (hcn : cn ≤ 600096) (hsn : sn ≤ 7301386) (nx : V X m_L lB σ R cn sn 640 (lL σ i none none) []) : V X m_L lB σ R cn sn 232 (lL σ i (some (vi k)) (some (vi b))) [] := by
  have fin : V X m_L lB σ R cn sn 260 (lL σ i (some (vi k)) (some (vi b))) [] := by
    refine x_goto (tgt := 640) d_L_260 rfl ?_
    refine V.forget 5 (lL σ i none (some (vi b))) rfl ?_
    exact V.forget 6 (lL σ i none none) rfl nx
  refine x_aload_n d_L_232 2 rfl rfl ?_
  refine x_cvi 30 (As := []) (c_P_thrown hM) cs_W_55 (thisM hM) rfl rfl (lr rfl) d_L_233 (lr rfl) ⟨hcn, hsn⟩ ?_
  rw [hf]
  refine x_iload d_L_236 rfl ?_
  refine x_icmp_eq (tgt := 243) d_L_238 rfl (by omega) (by omega) (fun c => ?_) (fun c => absurd rfl c)
  refine x_iload d_L_243 rfl ?_
  refine x_if_ne (tgt := 260) d_L_245 rfl (by omega) (fun c2 => fin) (fun c2 => ?_)
  have hk0 : k = 0 := by omega
  refine x_aload_n d_L_248 3 rfl rfl ?_
  refine x_iconst d_L_249 ?_
  refine x_lald 60 b h60 rfl ⟨by decide, rfl, by decide⟩ rfl (by omega) (hb hk0) d_L_250 ?_
  refine x_iload d_L_251 rfl ?_
  refine x_i2l d_L_253 (xi2l (hbr hk0)) ?_
  refine x_lcmp d_L_254 0 (lcmp_rf b) ?_
  exact x_if_eq (tgt := 260) d_L_255 rfl (by omega) (fun c3 => fin) (fun c3 => absurd rfl c3)
set_option maxHeartbeats 1000000 in
theorem t_parse (hM : xsh σ mshape) (h60 : (σ 60).2 = (37, 1)) (i k b : Int) (hk : 0 ≤ k ∧ k ≤ 3) (hf : R 30 0 = k) (hb : k = 0 → R 60 0 = b) (hbr : k = 0 → (-2147483648 ≤ b ∧ b < 2147483648)) (cn sn : Nat) (hcn : cn ≤ 600096) (hsn : sn ≤ 7301386) (nx : V X m_L lB σ R cn sn 640 (lL σ i none none) []) : V X m_L lB σ R cn sn 341 (lL σ i (some (vi k)) (some (vi b))) [] := by
  have fin : V X m_L lB σ R cn sn 369 (lL σ i (some (vi k)) (some (vi b))) [] := by
    refine x_goto (tgt := 640) d_L_369 rfl ?_
    refine V.forget 5 (lL σ i none (some (vi b))) rfl ?_
    exact V.forget 6 (lL σ i none none) rfl nx
  refine x_aload_n d_L_341 2 rfl rfl ?_
  refine x_cvi 30 (As := []) (c_P_thrown hM) cs_W_55 (thisM hM) rfl rfl (lr rfl) d_L_342 (lr rfl) ⟨hcn, hsn⟩ ?_
  rw [hf]
  refine x_iload d_L_345 rfl ?_
  refine x_icmp_eq (tgt := 352) d_L_347 rfl (by omega) (by omega) (fun c => ?_) (fun c => absurd rfl c)
  refine x_iload d_L_352 rfl ?_
  refine x_if_ne (tgt := 369) d_L_354 rfl (by omega) (fun c2 => fin) (fun c2 => ?_)
  have hk0 : k = 0 := by omega
  refine x_aload_n d_L_357 3 rfl rfl ?_
  refine x_iconst d_L_358 ?_
  refine x_lald 60 b h60 rfl ⟨by decide, rfl, by decide⟩ rfl (by omega) (hb hk0) d_L_359 ?_
  refine x_iload d_L_360 rfl ?_
  refine x_i2l d_L_362 (xi2l (hbr hk0)) ?_
  refine x_lcmp d_L_363 0 (lcmp_rf b) ?_
  exact x_if_eq (tgt := 369) d_L_364 rfl (by omega) (fun c3 => fin) (fun c3 => absurd rfl c3)
set_option maxHeartbeats 1000000 in
theorem t_repair (hM : xsh σ mshape) (h60 : (σ 60).2 = (37, 1)) (i k b : Int) (hk : 0 ≤ k ∧ k ≤ 3) (hf : R 30 0 = k) (hb : k = 0 → R 60 0 = b) (hbr : k = 0 → (-2147483648 ≤ b ∧ b < 2147483648)) (cn sn : Nat) (hcn : cn ≤ 600096) (hsn : sn ≤ 7301386) (nx : V X m_L lB σ R cn sn 640 (lL σ i none none) []) : V X m_L lB σ R cn sn 397 (lL σ i (some (vi k)) (some (vi b))) [] := by
  have fin : V X m_L lB σ R cn sn 425 (lL σ i (some (vi k)) (some (vi b))) [] := by
    refine x_goto (tgt := 640) d_L_425 rfl ?_
    refine V.forget 5 (lL σ i none (some (vi b))) rfl ?_
    exact V.forget 6 (lL σ i none none) rfl nx
  refine x_aload_n d_L_397 2 rfl rfl ?_
  refine x_cvi 30 (As := []) (c_P_thrown hM) cs_W_55 (thisM hM) rfl rfl (lr rfl) d_L_398 (lr rfl) ⟨hcn, hsn⟩ ?_
  rw [hf]
  refine x_iload d_L_401 rfl ?_
  refine x_icmp_eq (tgt := 408) d_L_403 rfl (by omega) (by omega) (fun c => ?_) (fun c => absurd rfl c)
  refine x_iload d_L_408 rfl ?_
  refine x_if_ne (tgt := 425) d_L_410 rfl (by omega) (fun c2 => fin) (fun c2 => ?_)
  have hk0 : k = 0 := by omega
  refine x_aload_n d_L_413 3 rfl rfl ?_
  refine x_iconst d_L_414 ?_
  refine x_lald 60 b h60 rfl ⟨by decide, rfl, by decide⟩ rfl (by omega) (hb hk0) d_L_415 ?_
  refine x_iload d_L_416 rfl ?_
  refine x_i2l d_L_418 (xi2l (hbr hk0)) ?_
  refine x_lcmp d_L_419 0 (lcmp_rf b) ?_
  exact x_if_eq (tgt := 425) d_L_420 rfl (by omega) (fun c3 => fin) (fun c3 => absurd rfl c3)
set_option maxHeartbeats 1000000 in
theorem t_reach (hM : xsh σ mshape) (h60 : (σ 60).2 = (37, 1)) (i k b : Int) (hk : 0 ≤ k ∧ k ≤ 3) (hf : R 30 0 = k) (hb : k = 0 → R 60 0 = b) (hbr : k = 0 → (-2147483648 ≤ b ∧ b < 2147483648)) (cn sn : Nat) (hcn : cn ≤ 600096) (hsn : sn ≤ 7301386) (nx : V X m_L lB σ R cn sn 640 (lL σ i none none) []) : V X m_L lB σ R cn sn 503 (lL σ i (some (vi k)) (some (vi b))) [] := by
  have fin : V X m_L lB σ R cn sn 531 (lL σ i (some (vi k)) (some (vi b))) [] := by
    refine x_goto (tgt := 640) d_L_531 rfl ?_
    refine V.forget 5 (lL σ i none (some (vi b))) rfl ?_
    exact V.forget 6 (lL σ i none none) rfl nx
  refine x_aload_n d_L_503 2 rfl rfl ?_
  refine x_cvi 30 (As := []) (c_P_thrown hM) cs_W_55 (thisM hM) rfl rfl (lr rfl) d_L_504 (lr rfl) ⟨hcn, hsn⟩ ?_
  rw [hf]
  refine x_iload d_L_507 rfl ?_
  refine x_icmp_eq (tgt := 514) d_L_509 rfl (by omega) (by omega) (fun c => ?_) (fun c => absurd rfl c)
  refine x_iload d_L_514 rfl ?_
  refine x_if_ne (tgt := 531) d_L_516 rfl (by omega) (fun c2 => fin) (fun c2 => ?_)
  have hk0 : k = 0 := by omega
  refine x_aload_n d_L_519 3 rfl rfl ?_
  refine x_iconst d_L_520 ?_
  refine x_lald 60 b h60 rfl ⟨by decide, rfl, by decide⟩ rfl (by omega) (hb hk0) d_L_521 ?_
  refine x_iload d_L_522 rfl ?_
  refine x_i2l d_L_524 (xi2l (hbr hk0)) ?_
  refine x_lcmp d_L_525 0 (lcmp_rf b) ?_
  exact x_if_eq (tgt := 531) d_L_526 rfl (by omega) (fun c3 => fin) (fun c3 => absurd rfl c3)
set_option maxHeartbeats 1000000 in
theorem t_apply (hM : xsh σ mshape) (h60 : (σ 60).2 = (37, 1)) (i k b : Int) (hk : 0 ≤ k ∧ k ≤ 3) (hf : R 30 0 = k) (hb : k = 0 → R 60 0 = b) (hbr : k = 0 → (-2147483648 ≤ b ∧ b < 2147483648)) (cn sn : Nat) (hcn : cn ≤ 600096) (hsn : sn ≤ 7301386) (nx : V X m_L lB σ R cn sn 640 (lL σ i none none) []) : V X m_L lB σ R cn sn 559 (lL σ i (some (vi k)) (some (vi b))) [] := by
  have fin : V X m_L lB σ R cn sn 587 (lL σ i (some (vi k)) (some (vi b))) [] := by
    refine x_goto (tgt := 640) d_L_587 rfl ?_
    refine V.forget 5 (lL σ i none (some (vi b))) rfl ?_
    exact V.forget 6 (lL σ i none none) rfl nx
  refine x_aload_n d_L_559 2 rfl rfl ?_
  refine x_cvi 30 (As := []) (c_P_thrown hM) cs_W_55 (thisM hM) rfl rfl (lr rfl) d_L_560 (lr rfl) ⟨hcn, hsn⟩ ?_
  rw [hf]
  refine x_iload d_L_563 rfl ?_
  refine x_icmp_eq (tgt := 570) d_L_565 rfl (by omega) (by omega) (fun c => ?_) (fun c => absurd rfl c)
  refine x_iload d_L_570 rfl ?_
  refine x_if_ne (tgt := 587) d_L_572 rfl (by omega) (fun c2 => fin) (fun c2 => ?_)
  have hk0 : k = 0 := by omega
  refine x_aload_n d_L_575 3 rfl rfl ?_
  refine x_iconst d_L_576 ?_
  refine x_lald 60 b h60 rfl ⟨by decide, rfl, by decide⟩ rfl (by omega) (hb hk0) d_L_577 ?_
  refine x_iload d_L_578 rfl ?_
  refine x_i2l d_L_580 (xi2l (hbr hk0)) ?_
  refine x_lcmp d_L_581 0 (lcmp_rf b) ?_
  exact x_if_eq (tgt := 587) d_L_582 rfl (by omega) (fun c3 => fin) (fun c3 => absurd rfl c3)
end LTAIL
