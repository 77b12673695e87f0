/-! the law: typing -/
theorem i2c_ex (x : Int32) : ∃ z : Int, (0 ≤ z ∧ z < 65536) ∧ (x.toUInt32 % 65536).toInt32 = iI z := by
  have h1 : (x.toUInt32 % 65536).toNat < 65536 := by
    rw [UInt32.toNat_mod]
    exact Nat.mod_lt _ (by decide)
  refine ⟨((x.toUInt32 % 65536).toNat : Int), by omega, ?_⟩
  generalize x.toUInt32 % 65536 = u at h1
  unfold iI
  apply Int32.toBitVec_inj.mp
  show u.toBitVec = BitVec.ofInt 32 (u.toNat : Int)
  rw [BitVec.ofInt_natCast]
  exact (BitVec.ofNat_toNat 32 u.toBitVec).symm ▸ by simp
/-- as jKp, but for what is typed -/
def jKt (R R' : xR) : Prop := (∀ a, a ≠ 16 → a ≠ 17 → a ≠ 18 → a ≠ 30 → a ≠ 49 → a ≠ 50 → a ≠ 57 → a ≠ 60 → a ≠ 10 → a ≠ 11 → a ≠ 32 → R' a = R a) ∧ ∀ i, i ≠ 0 → i ≠ 27 → i ≠ 28 → i ≠ 2 → R' 30 i = R 30 i
theorem jA.typ {σ : xS} {R R' : xR} {len : Nat} {ρ : Int → Int} {e2 : Int} {cap2 : Nat} {e3 n3 : Int} {cap3 : Nat} {π : Int → Int} {e4 n4 : Int} {cap4 : Nat} {f : Int} {n : Nat} {D : List (List Int × Int)} {a : auT} {e0 : xEn} (h : jA σ R len ρ e2 cap2 e3 n3 cap3 π e4 n4 cap4 f n D a e0) {n' : Nat} (hk : jKt R R') (hY : jTy σ R' n') : jA σ R' len ρ e2 cap2 e3 n3 cap3 π e4 n4 cap4 f n' D a e0 := by
  obtain ⟨h1, h2, h3, h4, h5, h6, h7, h8, h9, h10, h11, h12⟩ := h
  have k : ∀ b, b ≠ 16 → b ≠ 17 → b ≠ 18 → b ≠ 30 → b ≠ 49 → b ≠ 50 → b ≠ 57 → b ≠ 60 → b ≠ 10 → b ≠ 11 → b ≠ 32 → R' b = R b := hk.1
  have ki := hk.2
  have eg : gM R' = gM R := gM_kp (ki 3 (by decide) (by decide) (by decide) (by decide)) (fun b hb => k b (by omega) (by omega) (by omega) (by omega) (by omega) (by omega) (by omega) (by omega) (by omega) (by omega) (by omega))
  have e1 : R' 1 = R 1 := k 1 (by decide) (by decide) (by decide) (by decide) (by decide) (by decide) (by decide) (by decide) (by decide) (by decide) (by decide)
  have e48 : R' 48 = R 48 := k 48 (by decide) (by decide) (by decide) (by decide) (by decide) (by decide) (by decide) (by decide) (by decide) (by decide) (by decide)
  have e8 : R' 8 = R 8 := k 8 (by decide) (by decide) (by decide) (by decide) (by decide) (by decide) (by decide) (by decide) (by decide) (by decide) (by decide)
  have e6 : R' 6 = R 6 := k 6 (by decide) (by decide) (by decide) (by decide) (by decide) (by decide) (by decide) (by decide) (by decide) (by decide) (by decide)
  have e7 : R' 7 = R 7 := k 7 (by decide) (by decide) (by decide) (by decide) (by decide) (by decide) (by decide) (by decide) (by decide) (by decide) (by decide)
  have e51 : R' 51 = R 51 := k 51 (by decide) (by decide) (by decide) (by decide) (by decide) (by decide) (by decide) (by decide) (by decide) (by decide) (by decide)
  have e52 : R' 52 = R 52 := k 52 (by decide) (by decide) (by decide) (by decide) (by decide) (by decide) (by decide) (by decide) (by decide) (by decide) (by decide)
  have e44 : R' 44 = R 44 := k 44 (by decide) (by decide) (by decide) (by decide) (by decide) (by decide) (by decide) (by decide) (by decide) (by decide) (by decide)
  have e61 : R' 61 = R 61 := k 61 (by decide) (by decide) (by decide) (by decide) (by decide) (by decide) (by decide) (by decide) (by decide) (by decide) (by decide)
  have x15 := ki 15 (by decide) (by decide) (by decide) (by decide)
  have x16 := ki 16 (by decide) (by decide) (by decide) (by decide)
  have x22 := ki 22 (by decide) (by decide) (by decide) (by decide)
  have x23 := ki 23 (by decide) (by decide) (by decide) (by decide)
  have x12 := ki 12 (by decide) (by decide) (by decide) (by decide)
  have eEn : mEnv R' = mEnv R := by unfold mEnv; rw [x15, e48, e51, e52, x16]
  refine ⟨h1, h2, ?_, ?_, ?_, ?_, ?_, ?_, ?_, ?_, ?_, ?_⟩
  · unfold jSc; rw [e61]; exact h3
  · rw [eg]; exact h4.kp (fun b hb => k b (by omega) (by omega) (by omega) (by omega) (by omega) (by omega) (by omega) (by omega) (by omega) (by omega) (by omega))
  · exact hY
  · unfold jTx at *; rw [e1, x15, e8, e48]; exact h6
  · unfold jCs at *; rw [e6, e7, e51, e52]; exact h7
  · rw [e44]; exact h8
  · rw [e1]; exact h9
  · exact ⟨h10.1.kept x22 (fun p q hp => by rw [k p (by omega) (by omega) (by omega) (by omega) (by omega) (by omega) (by omega) (by omega) (by omega) (by omega) (by omega)]), h10.2.1.keep (by rw [e1]) (fun b hb => k b (by omega) (by omega) (by omega) (by omega) (by omega) (by omega) (by omega) (by omega) (by omega) (by omega) (by omega)), h10.2.2.1, by rw [e1, x23]; exact h10.2.2.2.1, by rw [e1]; exact h10.2.2.2.2⟩
  · rcases h11 with q | ⟨q1, q2, q3, q4⟩
    · exact Or.inl (by rw [e1, x12]; exact q)
    · refine Or.inr ⟨by rw [e1]; exact q1, by rw [x12]; exact q2, q3.keep (ki 3 (by decide) (by decide) (by decide) (by decide)) x12 (fun p q hp => by rw [k p (by omega) (by omega) (by omega) (by omega) (by omega) (by omega) (by omega) (by omega) (by omega) (by omega) (by omega)]), ?_⟩
      rw [eg]
      exact q4.kp (fun b hb => k b (by omega) (by omega) (by omega) (by omega) (by omega) (by omega) (by omega) (by omega) (by omega) (by omega) (by omega)) (by rw [e1]) (by rw [e1])
  · unfold jRp at *
    rw [x16, eg, e48, x15, eEn]
    exact h12
section LOPS3
variable {X : xCtx} {σ : xS} {R : xR} {len : Nat} {ρ : Int → Int} {e2 : Int} {cap2 : Nat} {e3 n3 : Int} {cap3 : Nat} {π : Int → Int} {e4 n4 : Int} {cap4 : Nat} {f : Int} {n : Nat} {D : List (List Int × Int)} {a : auT} {e0 : xEn}
set_option maxHeartbeats 2000000 in
theorem op_write (h : jA σ R len ρ e2 cap2 e3 n3 cap3 π e4 n4 cap4 f n D a e0) (i : Int) (hi : 0 ≤ i ∧ i + 3 < (len : Int)) (cn sn : Nat) (hcn : cn ≤ 600096) (hsn : sn ≤ 7301386) (nx : lNx X len i cn sn) : V X m_L lB σ R cn sn 104 (lL σ i none none) [] := by
  have hD := h.2.2.2.1.1
  have hM := h.1
  have hY := h.2.2.2.2.1
  have hS1 : (σ 61).2 = (32, len) := h.2.2.1.1
  have hl9 := h.2.2.1.2.1
  have hn10 := hY.1.2.2.2.2
  obtain ⟨c, hc, hce⟩ := i2c_ex (iI (R 61 (i + 1)))
  refine x_aload_n d_L_104 1 rfl rfl ?_
  refine x_scr h (c := 1) (by omega) d_L_105 d_L_106 d_L_108 d_L_109 d_L_110 ?_
  refine x_i2c d_L_111 c hce ?_
  refine x_cvm 1 (As := [vi c]) (c_D_write hD n c hY.1 hc) cs_W_44 (thisD hD) rfl rfl (lr rfl) d_L_112 (lr rfl) ⟨hcn, hsn⟩ (fun z1 R1 hz1 => ?_)
  have k1 : ∀ b, b ≠ 10 → b ≠ 11 → R1 b = R b := fun b b1 b2 => by
    rcases hz1 with ⟨-, -, q⟩ | ⟨-, -, q⟩
    · rw [q]
    · funext x; rw [q, xr_o rfl b2, xr_o rfl b1]
  have hz01 : z1 = 0 ∨ z1 = 1 := by
    rcases hz1 with ⟨-, q, -⟩ | ⟨-, q, -⟩ <;> omega
  refine x_aload_n d_L_115 2 rfl rfl ?_
  refine x_aload_n d_L_116 0 rfl rfl ?_
  refine x_iload d_L_117 rfl ?_
  refine x_iconst d_L_119 ?_
  refine x_iadd d_L_120 ?_
  refine x_iald 61 (R 61 (i + 1)) hS1 rfl ⟨by decide, rfl, by omega⟩ rfl (by omega) (by rw [k1 61 (by decide) (by decide)]) d_L_121 ?_
  refine x_i2c d_L_122 c hce ?_
  have e2' : R1 30 2 = (n : Int) := by rw [k1 30 (by decide) (by decide)]; exact hY.2.1
  refine x_cvm 30 (As := [vi c]) (c_P_write hM c hc (by omega)) cs_W_48 (thisM hM) rfl rfl (lr rfl) d_L_123 (lr rfl) ⟨hcn, hsn⟩ (fun z2 R2 hz2 => ?_)
  rw [e2'] at hz2
  rcases hz1 with ⟨c1, q1, q2⟩ | ⟨c1, q1, q2⟩
  · rcases hz2 with ⟨-, p1, p2⟩ | ⟨c2, -⟩
    · refine x_icmp_eq (tgt := 640) d_L_126 rfl (by omega) (by omega) (fun cz => ?_) (fun cz => by omega)
      rw [q2] at p2
      exact nx σ R2 (h.scr (jKp.fault p2)).all
    · exact absurd c1 c2
  · rcases hz2 with ⟨c2, -⟩ | ⟨-, p1, p2⟩
    · exact absurd c2 c1
    · refine x_icmp_eq (tgt := 640) d_L_126 rfl (by omega) (by omega) (fun cz => ?_) (fun cz => by omega)
      have k2 : ∀ b, b ≠ 30 → b ≠ 32 → R2 b = R1 b := fun b b1 b2 => by funext x; rw [p2, xr_o rfl b1, xr_o rfl b2, xr_o rfl b1]
      have e10 : R2 10 = R1 10 := k2 10 (by decide) (by decide)
      have e11 : R2 11 = R1 11 := k2 11 (by decide) (by decide)
      refine nx σ R2 (h.typ (n' := n + 1) ⟨fun b b1 b2 b3 b4 b5 b6 b7 b8 b9 b10 b11 => by rw [k2 b b4 b11, k1 b b9 b10], fun j j0 j1 j2 j3 => ?_⟩ ⟨⟨hY.1.1, hY.1.2.1, ?_, ?_, by omega⟩, ?_, fun x x0 x1 => ?_⟩).all
      · rw [p2, xr_d rfl j3, xr_o rfl (by decide), xr_d rfl j0, k1 30 (by decide) (by decide)]
      · rw [e10, q2, xr_o rfl (by decide), xr_d rfl (by decide)]; exact hY.1.2.2.1
      · rw [e10, q2, xr_o rfl (by decide), xr_s rfl]; omega
      · rw [p2, xr_s rfl]; omega
      · have x1' : x < (n : Int) + 1 := by omega
        rw [e11]
        by_cases cx : x = n
        · have a1 : R1 11 x = c := by rw [q2, cx, xr_s rfl]
          have a2 : R2 32 x = c := by rw [p2, cx, xr_o rfl (by decide), xr_s rfl]
          rw [a1, a2]
          exact ⟨rfl, by omega, by omega⟩
        · have a1 : R1 11 x = R 11 x := by rw [q2, xr_d rfl cx, xr_o rfl (by decide)]
          have a2 : R2 32 x = R 32 x := by rw [p2, xr_o rfl (by decide), xr_d rfl cx, xr_o rfl (by decide), k1 32 (by decide) (by decide)]
          rw [a1, a2]
          exact hY.2.2 x x0 (by omega)
end LOPS3
