/-! the desk: build's loop over states and symbols -/
theorem i2s_of {z : Int} (h : -32768 ≤ z ∧ z < 32768) : (iI z).toInt16.toInt32 = iI z := by
  have := nars h
  injection this
theorem dNx.kp {R R3 : xR} {π : Int → Int} {k y : Int} (h : dNx R π k y R3) (hk : 0 ≤ k) : (∀ b, b ≠ 1 → b ≠ 400 + k → R3 b = R b) ∧ ∀ j, j ≠ 10 → R3 1 j = R 1 j := by
  rcases h with ⟨-, h⟩ | ⟨-, z, R2, -, nu, h⟩
  · exact ⟨fun b _ b2 => by funext i; exact xr_o h b2, fun j _ => xr_o h (by omega)⟩
  · have h2 : (∀ b, b ≠ 1 → R2 b = R b) ∧ ∀ j, j ≠ 10 → R2 1 j = R 1 j := by
      rcases nu with ⟨-, -, e, -⟩ | ⟨-, e, -⟩ | ⟨-, -, e, -⟩
      · rw [e]; exact ⟨fun _ _ => rfl, fun _ _ => rfl⟩
      · rw [e]; exact ⟨fun _ _ => rfl, fun _ _ => rfl⟩
      · exact ⟨fun b b1 => by funext i; exact xr_o e b1, fun j j1 => xr_d e j1⟩
    exact ⟨fun b b1 b2 => by rw [← h2.1 b b1]; funext i; exact xr_o h b2, fun j j1 => by rw [← h2.2 j j1]; exact xr_o h (by omega)⟩
set_option maxHeartbeats 4000000 in
set_option maxRecDepth 100000 in
theorem v_D_num {X : xCtx} {Z : xZ} {σ : xS} {R : xR} (hD : dSh σ) (π : Int → Int) (e n : Int) (cap : Nat) (hP : dPl σ R π e n cap) (hs : 0 ≤ R 1 10 ∧ R 1 10 ≤ 40 ∧ R 1 10 < n) (hsp : R 1 11 = ((σ (π (R 1 10))).1 : Int) + 1) (k y : Int) (hk : 0 ≤ k ∧ k < 40) (hy : 0 ≤ y ∧ y ≤ 12) (cn sn qa : Nat) (hcn : cn ≤ 1580) (hsn : sn ≤ 38400) (lc : Option Value)
    (fin : ∀ R3, dNx R π k y R3 → V X m_D_build (10, 1580, 38400, Z) σ R3 cn sn 149 [some (.ref (σ 1).1), some (.ref qa), some (vi k), some (vi (y + 1)), none] [])
    (ret : (¬ ∀ c, 0 ≤ c → c < 448 → ¬ sH R (π (R 1 10) + 1) c) → R 1 10 = 40 → (∀ k, 0 ≤ k → k < 40 → ¬ alB R (π k) (π (R 1 10))) → Z (.returned (some (vi 0))) σ R) :
    V X m_D_build (10, 1580, 38400, Z) σ R cn sn 171 [some (.ref (σ 1).1), some (.ref qa), some (vi k), some (vi y), lc] [] := by
  have hd1 := hD.1.at 0 (k := 1) (t := 17) (n := 0) rfl
  have hlr := hD.2.1 k hk.1 hk.2
  obtain ⟨t1, t2, t3, t4⟩ := hP.2.2.2.2.1 (R 1 10) hs.1 hs.2.2
  have hB : cn + 0 ≤ 1580 ∧ sn + 0 ≤ 38400 := ⟨hcn, hsn⟩
  -- the store
  have st : ∀ (R2 : xR) (z : Int), -1 ≤ z → z < 40 → (∀ R3, R3 = xup R2 (400 + k) y (1 + z) → dNx R π k y R3) → V X m_D_build (10, 1580, 38400, Z) σ R2 cn sn 208 [some (.ref (σ 1).1), some (.ref qa), some (vi k), some (vi y), some (vi z)] [] := by
    intro R2 z z0 z1 hz
    refine x_aload_n d_D_build_208 0 rfl rfl ?_
    refine x_getc 1 14 15 15 fl_D_50 tk_17_14 hd1 rfl rfl d_D_build_209 ?_
    refine x_iload_n d_D_build_212 2 rfl rfl ?_
    refine x_aald 15 (v := .ref (σ (400 + k)).1) (hD.1.at 8 rfl) rfl ⟨by decide, rfl, by decide⟩ (by omega) (row43 (by omega)) d_D_build_213 ?_
    refine x_iload_n d_D_build_214 3 rfl rfl ?_
    refine x_iconst d_D_build_215 ?_
    refine x_iload d_D_build_216 rfl ?_
    refine x_iadd d_D_build_218 ?_
    refine x_i2s d_D_build_219 (1 + z) (i2s_of (by omega)) ?_
    refine x_sast (400 + k) hlr rfl ⟨by decide, rfl, by decide⟩ rfl (by omega) (nars (by omega)) d_D_build_220 (fun R3 hR3 => ?_)
    refine x_iinc d_D_build_221 rfl [some (.ref (σ 1).1), some (.ref qa), some (vi k), some (vi (y + 1)), some (vi z)] rfl rfl (lr rfl) ?_
    refine x_goto (tgt := 149) d_D_build_224 rfl ?_
    refine V.forget 4 [some (.ref (σ 1).1), some (.ref qa), some (vi k), some (vi (y + 1)), none] rfl ?_
    exact fin R3 (hz R3 hR3)
  have hz9 := zc_or (∀ c, 0 ≤ c → c < 448 → ¬ sH R (π (R 1 10) + 1) c)
  refine x_aload_n d_D_build_171 0 rfl rfl ?_
  refine x_getr 1 11 11 (((σ (π (R 1 10))).1 : Int) + 1) fl_D_189 tk_17_11 hd1 rfl rfl hsp d_D_build_172 ?_
  refine x_cvi (π (R 1 10)) (As := []) (c_S_isEmpty (π (R 1 10)) t2 t3) cs_D_215 (thisS t2) rfl rfl (lr rfl) d_D_build_175 (lr rfl) hB ?_
  refine x_if_eq (tgt := 185) d_D_build_178 rfl (by omega) (fun c => ?_) (fun c => ?_)
  · have hne := zc_eq0.mp c
    refine x_aload_n d_D_build_185 0 rfl rfl ?_
    refine x_cvm 1 (As := []) (c_D_number hD π e n cap hP hs hsp) cs_D_208 (thisD hD) rfl rfl (lr rfl) d_D_build_186 (lr rfl) hB (fun z R2 hnu => ?_)
    have hzr : -1 ≤ z ∧ z < 40 := by
      rcases hnu with ⟨-, q, -⟩ | ⟨q, -⟩ | ⟨q1, q2, -⟩ <;> omega
    refine x_istore d_D_build_189 [some (.ref (σ 1).1), some (.ref qa), some (vi k), some (vi y), some (vi z)] rfl rfl (lr rfl) ?_
    refine x_iload d_D_build_191 rfl ?_
    refine x_if_ge (tgt := 208) d_D_build_193 rfl (by omega) (fun c2 => ?_) (fun c2 => ?_)
    · exact st R2 z hzr.1 hzr.2 (fun R3 h3 => Or.inr ⟨hne, z, R2, by omega, hnu, h3⟩)
    · obtain ⟨n1, n2, n3⟩ : R 1 10 = 40 ∧ R2 = R ∧ ∀ k, 0 ≤ k → k < 40 → ¬ alB R (π k) (π (R 1 10)) := by
        rcases hnu with ⟨q1, -, q2, q3⟩ | ⟨q, -⟩ | ⟨q1, q2, -⟩
        · exact ⟨q1, q2, q3⟩
        · omega
        · omega
      rw [n2]
      refine x_aload_n d_D_build_196 0 rfl rfl ?_
      refine x_getr 1 11 11 (((σ (π (R 1 10))).1 : Int) + 1) fl_D_189 tk_17_11 hd1 rfl rfl hsp d_D_build_197 ?_
      refine x_cvi (π (R 1 10)) (As := []) (c_S_isEmpty (π (R 1 10)) t2 t3) cs_D_215 (thisS t2) rfl rfl (lr rfl) d_D_build_200 (lr rfl) hB ?_
      refine x_if_ne (tgt := 208) d_D_build_203 rfl (by omega) (fun c3 => ?_) (fun c3 => ?_)
      · exact absurd c c3
      · refine x_iconst d_D_build_206 ?_
        exact x_zret d_D_build_207 rfl (narz (Or.inl rfl)) hcn hsn (ret hne n1 n3)
  · have hem := zc_ne.mp c
    refine x_iconst d_D_build_181 ?_
    refine x_goto (tgt := 189) d_D_build_182 rfl ?_
    refine x_istore d_D_build_189 [some (.ref (σ 1).1), some (.ref qa), some (vi k), some (vi y), some (vi (-1))] rfl rfl (lr rfl) ?_
    refine x_iload d_D_build_191 rfl ?_
    refine x_if_ge (tgt := 208) d_D_build_193 rfl (by omega) (fun c2 => ?_) (fun c2 => ?_)
    · omega
    · refine x_aload_n d_D_build_196 0 rfl rfl ?_
      refine x_getr 1 11 11 (((σ (π (R 1 10))).1 : Int) + 1) fl_D_189 tk_17_11 hd1 rfl rfl hsp d_D_build_197 ?_
      refine x_cvi (π (R 1 10)) (As := []) (c_S_isEmpty (π (R 1 10)) t2 t3) cs_D_215 (thisS t2) rfl rfl (lr rfl) d_D_build_200 (lr rfl) hB ?_
      refine x_if_ne (tgt := 208) d_D_build_203 rfl (by omega) (fun c3 => ?_) (fun c3 => ?_)
      · exact st R (-1) (by omega) (by omega) (fun R3 h3 => Or.inl ⟨hem, h3⟩)
      · exact absurd c3 c
