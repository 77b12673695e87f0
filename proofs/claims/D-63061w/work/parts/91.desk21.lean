/-! the desk: rule, its first half -/
set_option maxHeartbeats 4000000 in
set_option maxRecDepth 100000 in
theorem v_D_rule2 {X : xCtx} {Z : xZ} {σ : xS} {R : xR} (hD : dSh σ) (x r : Int) (n : Nat) (hs : stI σ R x n) (hx : 1000 ≤ x) (hch : ∀ i, 0 ≤ i → i < (n : Int) → 0 ≤ R (x + 1) i ∧ R (x + 1) i < 128) (hc0 : 65 ≤ R (x + 1) 0 ∧ R (x + 1) 0 ≤ 70) (hn : 2 ≤ n ∧ n ≤ 6) (hr0 : (σ r).2.1 = 0) (hr1 : (σ (r + 1)).2 = (32, n - 2)) (hr : 1000 ≤ r) (s : Int → Int) (hel : ∀ i, 0 ≤ i → i < (n : Int) - 2 → R (r + 1) i = dy (s i) ∧ 0 ≤ s i ∧ s i ≤ 11)
    (nxt : ∀ (σ' : xS) (R' : xR), (∃ q, σ' = xsu σ r (q, 18, 0)) → (∀ a, a ≠ r → R' a = R a) → rlI σ' R' r (R (x + 1) 0 - 65) ((n : Int) - 2).toNat s → V X m_D_rule (8, 21, 186, Z) σ' R' 9 56 157 [some (.ref (σ' 1).1), some (.ref (σ x).1), some (.ref (σ (r + 1)).1), some (.ref (σ' r).1), some (vi ((0 : Nat) : Int))] []) (v3 : Option Value) :
    V X m_D_rule (8, 21, 186, Z) σ R 8 54 134 [some (.ref (σ 1).1), some (.ref (σ x).1), some (.ref (σ (r + 1)).1), v3, none] [] := by
  have hd1 := hD.1.at 0 (k := 1) (t := 17) (n := 0) rfl
  refine x_new r 2 (ci := 1) t_Rule (by omega) hr0 (by decide) rfl i_Rule t_Rule_ok raw_Rule w_clR w_inR w_iniR d_D_rule_134 ⟨lr rfl, lr rfl⟩ (fun q => ?_)
  obtain ⟨σ2, hσ2⟩ : ∃ s, s = xsu σ r (q, 2, 0) := ⟨_, rfl⟩
  obtain ⟨R2, hR2⟩ : ∃ s, s = xru R r (fun _ => 0) := ⟨_, rfl⟩
  rw [← hσ2, ← hR2]
  have s2 : ∀ a, a ≠ r → σ2 a = σ a := fun a h => by rw [hσ2]; exact xsu_ne _ _ h
  have s2r : σ2 r = (q, 2, 0) := by rw [hσ2]; exact xsu_self _ _ _
  have k2 : ∀ a, a ≠ r → R2 a = R a := fun a h => by rw [hR2]; exact xru_ne _ _ h
  have nx : x ≠ r := fun e => by have h := hs.1; rw [e] at h; rw [h] at hr0; cases hr0
  have nx1 : x + 1 ≠ r := fun e => by have h := hs.2.1; rw [e] at h; rw [h] at hr0; exact absurd hr0 (by decide : (35 : Nat) ≠ 0)
  have hs2 : stI σ2 R2 x n := ⟨by rw [s2 x nx]; exact hs.1, by rw [s2 _ nx1]; exact hs.2.1, by rw [k2 x nx]; exact hs.2.2.1, hs.2.2.2⟩
  have ex : σ x = σ2 x := (s2 x nx).symm
  have er1 : σ (r + 1) = σ2 (r + 1) := (s2 _ (by omega)).symm
  refine x_dup d_D_rule_137 rfl ?_
  refine x_bipush d_D_rule_138 rfl ?_
  refine x_aload_n d_D_rule_140 1 rfl rfl ?_
  refine x_iconst d_D_rule_141 ?_
  have h0 := hch 0 (Int.le_refl _) (by omega)
  have hcc := c_Str_charAt x 0 n hs2 (by omega) (by rw [k2 _ nx1]; exact h0)
  rw [k2 _ nx1, ← ex] at hcc
  refine x_cvi x (As := [vi 0]) hcc cs_D_108 ⟨ex ▸ rfl, 22, 0, 5, F_Str, 4, hs2.1, by decide, rfl⟩ rfl rfl (lr rfl) d_D_rule_142 (lr rfl) ⟨lr rfl, lr rfl⟩ ?_
  refine x_iadd d_D_rule_145 ?_
  refine x_bipush d_D_rule_146 rfl ?_
  refine x_isub d_D_rule_148 ?_
  refine V.teq (7 + (R (x + 1) 0 - 65)) (by omega) ?_
  refine x_aload_n d_D_rule_149 2 rfl rfl ?_
  have hc := c_R_init (σ := σ2) (R := R2) r (7 + (R (x + 1) 0 - 65)) (n - 2) (by rw [s2r]) (by omega) (by rw [← er1]; exact hr1)
  rw [show (σ2 r).1 = q by rw [s2r], ← er1] at hc
  refine x_ci (As := [vi (7 + (R (x + 1) 0 - 65)), .ref (σ (r + 1)).1]) hc cs_D_125 rfl rfl (lr rfl) d_D_rule_150 (lr rfl) ⟨lr rfl, lr rfl⟩ (fun w σ3 R3 hZ => ?_)
  obtain ⟨z1, z2, z3, z4⟩ := hZ
  cases z1
  have s3 : ∀ a, a ≠ r → σ3 a = σ2 a := fun a h => by rw [z2]; exact xsu_ne _ _ h
  have s3r : σ3 r = (q, 18, 0) := by rw [z2, xsu_self]
  have h1r : (1 : Int) ≠ r := by omega
  refine x_astore_n d_D_rule_153 3 rfl [some (.ref (σ 1).1), some (.ref (σ x).1), some (.ref (σ (r + 1)).1), some (.ref q), none] rfl rfl (lr rfl) ?_
  refine x_iconst d_D_rule_154 ?_
  refine x_istore d_D_rule_155 [some (.ref (σ 1).1), some (.ref (σ x).1), some (.ref (σ (r + 1)).1), some (.ref q), some (vi ((0 : Nat) : Int))] rfl rfl (lr rfl) ?_
  have e1 : σ 1 = σ3 1 := by rw [s3 1 h1r, s2 1 h1r]
  have hn2 := nxt σ3 R3 ⟨q, by rw [z2, hσ2]; funext a; by_cases c : a = r; (rw [c, xsu_self, xsu_self]); (rw [xsu_ne _ _ c, xsu_ne _ _ c, xsu_ne _ _ c])⟩ (fun a h => by rw [z4 a h, k2 a h]) ⟨by rw [s3r], by rw [s3 _ (by omega), ← er1, hr1, show ((n : Int) - 2).toNat = n - 2 by omega], by omega, z3, by omega, fun i i0 i1 => by rw [z4 _ (by omega), k2 _ (by omega)]; exact hel i i0 (by omega)⟩
  rw [← e1, show (σ3 r).1 = q by rw [s3r]] at hn2
  exact hn2
theorem dy_rSy {c : Int} (h : rCls c) : (65 ≤ c ∧ c ≤ 70 → dy (rSy c) = 7 + c - 65) ∧ (¬ (65 ≤ c ∧ c ≤ 70) → dy (rSy c) = c - 97) := by
  unfold rCls at h
  unfold rSy dy
  constructor
  · intro h1
    rw [if_neg (by omega), if_neg (by omega)]
    omega
  · intro h1
    rw [if_pos (by omega), if_pos (by omega)]
set_option maxHeartbeats 4000000 in
set_option maxRecDepth 100000 in
theorem v_D_rule1 {X : xCtx} {Z : xZ} {σ : xS} {R : xR} (hD : dSh σ) (x r f : Int) (n : Nat) (hs : stI σ R x n) (hx : 1000 ≤ x) (hch : ∀ i, 0 ≤ i → i < (n : Int) → 0 ≤ R (x + 1) i ∧ R (x + 1) i < 128) (hb : rBas n (R (x + 1))) (hr1 : (σ (r + 1)).2 = (32, n - 2)) (hxr : r + 1 ≠ x ∧ r + 1 ≠ x + 1) (hf : fr f σ)
    (nxt : rGood n (R (x + 1)) → ∀ R1 : xR, (∀ a, a ≠ r + 1 → R1 a = R a) → (∀ i, 0 ≤ i → i < (n : Int) - 2 → R1 (r + 1) i = dy (rSy (R (x + 1) (i + 2)))) → ∀ v3, V X m_D_rule (8, 21, 186, Z) σ R1 8 54 134 [some (.ref (σ 1).1), some (.ref (σ x).1), some (.ref (σ (r + 1)).1), v3, none] [])
    (fin8 : ¬ rGood n (R (x + 1)) → ∀ (R1 : xR) (q : Nat), (∀ a, a ≠ r + 1 → R1 a = R a) → Z (.threw q) (xsu σ f (q, 8, 0)) (xru R1 f (fun _ => 0))) :
    ∀ (mw k : Nat) (R1 : xR), n - 2 - k = mw → k ≤ n - 2 → (∀ a, a ≠ r + 1 → R1 a = R a) → (∀ i, 0 ≤ i → i < (k : Int) → rCls (R (x + 1) (i + 2)) ∧ R1 (r + 1) i = dy (rSy (R (x + 1) (i + 2)))) → V X m_D_rule (8, 21, 186, Z) σ R1 (4 + k) (30 + 6 * k) 62 [some (.ref (σ 1).1), some (.ref (σ x).1), some (.ref (σ (r + 1)).1), some (vi k), none] [] := by
  intro mw
  induction mw using Nat.strongRecOn with
  | _ mw ih =>
    intro k R1 hm hk hkp hin
    have hf9 := hf.1
    have hn := hb.1
    have hB : 4 + k + 0 ≤ 21 ∧ 30 + 6 * k + 0 ≤ 186 := by omega
    have ex : R1 (x + 1) = R (x + 1) := hkp _ (fun e => hxr.2 e.symm)
    have hs1 : stI σ R1 x n := ⟨hs.1, hs.2.1, by rw [hkp x (fun e => hxr.1 e.symm)]; exact hs.2.2.1, hs.2.2.2⟩
    refine x_iload_n d_D_rule_62 3 rfl rfl ?_
    refine x_aload_n d_D_rule_63 2 rfl rfl ?_
    refine x_len (r + 1) hr1 rfl (by decide) d_D_rule_64 ?_
    refine x_icmp_ge (tgt := 134) d_D_rule_65 rfl (by omega) (by omega) (fun c => ?_) (fun c => ?_)
    · have ek : k = n - 2 := by omega
      exact V.widen 8 54 (by omega) (by omega) (nxt ⟨hb, fun i i0 i1 => by have := (hin (i - 2) (by omega) (by omega)).1; rw [show i - 2 + 2 = i by omega] at this; exact this⟩ R1 hkp (fun i i0 i1 => (hin i i0 (by omega)).2) _)
    · obtain ⟨cc, hcc⟩ : ∃ c : Int, c = R (x + 1) ((k : Int) + 2) := ⟨_, rfl⟩
      have hc9 := hch ((k : Int) + 2) (by omega) (by omega)
      rw [← hcc] at hc9
      have hcn := zb_cs (65 ≤ cc ∧ cc ≤ 70)
      have hcl := zb_cs (97 ≤ cc ∧ cc ≤ 102)
      have hca := c_Str_charAt x ((k : Int) + 2) n hs1 (by omega) (by rw [ex, ← hcc]; exact hc9)
      rw [ex, ← hcc] at hca
      refine x_aload_n d_D_rule_68 1 rfl rfl ?_
      refine x_iload_n d_D_rule_69 3 rfl rfl ?_
      refine x_iconst d_D_rule_70 ?_
      refine x_iadd d_D_rule_71 ?_
      refine x_cvi x (As := [vi ((k : Int) + 2)]) hca cs_D_108 hs1.rc rfl rfl (lr rfl) d_D_rule_72 (lr rfl) hB ?_
      refine x_istore d_D_rule_75 [some (.ref (σ 1).1), some (.ref (σ x).1), some (.ref (σ (r + 1)).1), some (vi k), some (vi cc)] rfl rfl (lr rfl) ?_
      -- the store
      have h127 : ∀ v : Int, rCls cc → v = dy (rSy cc) → V X m_D_rule (8, 21, 186, Z) σ R1 (4 + k + 1) (30 + 6 * k + 6) 127 [some (.ref (σ 1).1), some (.ref (σ x).1), some (.ref (σ (r + 1)).1), some (vi k), some (vi cc)] [vi v, vi k, .ref (σ (r + 1)).1] := by
        intro v hcl hv
        refine x_iast (r + 1) hr1 rfl ⟨by decide, rfl, by omega⟩ rfl (by omega) d_D_rule_127 (fun R2 hR2 => ?_)
        refine x_iinc d_D_rule_128 rfl [some (.ref (σ 1).1), some (.ref (σ x).1), some (.ref (σ (r + 1)).1), some (vi ((k + 1 : Nat) : Int)), some (vi cc)] rfl rfl (lr rfl) ?_
        refine x_goto (tgt := 62) d_D_rule_131 rfl ?_
        refine V.forget 4 [some (.ref (σ 1).1), some (.ref (σ x).1), some (.ref (σ (r + 1)).1), some (vi ((k + 1 : Nat) : Int)), none] rfl ?_
        refine V.widen (4 + (k + 1)) (30 + 6 * (k + 1)) (by omega) (by omega) (ih _ (by omega) (k + 1) R2 rfl (by omega) (fun a h => by rw [← hkp a h]; funext i; exact xr_o hR2 h) (fun i i0 i1 => ?_))
        by_cases e : i = k
        · rw [e, xr_s hR2, ← hcc]; exact ⟨hcl, hv⟩
        · rw [xr_d hR2 e]; exact hin i i0 (by omega)
      -- behind the test
      have h98 : ∀ z : Int, (z = 1 ∧ rCls cc) ∨ (z = 0 ∧ ¬ rCls cc) → V X m_D_rule (8, 21, 186, Z) σ R1 (4 + k) (30 + 6 * k) 98 [some (.ref (σ 1).1), some (.ref (σ x).1), some (.ref (σ (r + 1)).1), some (vi k), some (vi cc)] [vi z] := by
        intro z hz
        refine x_callST (As := [vi z]) (c_D_need z f (hz.elim (fun q => Or.inr q.1) (fun q => Or.inl q.1)) (by omega) (hf.2 f (Int.le_refl _))) cs_D_116 rfl rfl (lr rfl) d_D_rule_98 (lr rfl) ⟨by show 4 + k + 1 ≤ 21; omega, by show 30 + 6 * k + 6 ≤ 186; omega⟩ (fun w σ1 R2 hq => ?_) (fun w σ1 R2 hq => ?_)
        · rcases hq with ⟨q1, q2, q3, q4⟩ | ⟨-, q, q2, -⟩
          · cases q2
            rw [q3, q4]
            have hcls : rCls cc := hz.elim (fun q => q.2) (fun q => by have := q.1; omega)
            refine x_aload_n d_D_rule_101 2 rfl rfl ?_
            refine x_iload_n d_D_rule_102 3 rfl rfl ?_
            refine x_iload d_D_rule_103 rfl ?_
            refine x_csi (As := [vi cc]) (c_D_isName cc (by omega)) cs_D_112 rfl rfl (lr rfl) d_D_rule_105 (lr rfl) ⟨by show 4 + k + 1 + 0 ≤ 21; omega, by show 30 + 6 * k + 6 + 0 ≤ 186; omega⟩ ?_
            refine x_if_eq (tgt := 122) d_D_rule_108 rfl (by omega) (fun c2 => ?_) (fun c2 => ?_)
            · refine x_iload d_D_rule_122 rfl ?_
              refine x_bipush d_D_rule_124 rfl ?_
              refine x_isub d_D_rule_126 ?_
              exact h127 _ hcls ((dy_rSy hcls).2 (by omega)).symm
            · refine x_bipush d_D_rule_111 rfl ?_
              refine x_iload d_D_rule_113 rfl ?_
              refine x_iadd d_D_rule_115 ?_
              refine x_bipush d_D_rule_116 rfl ?_
              refine x_isub d_D_rule_118 ?_
              refine x_goto (tgt := 127) d_D_rule_119 rfl ?_
              exact h127 _ hcls ((dy_rSy hcls).1 (by omega)).symm
          · cases q2
        · rcases hq with ⟨-, q2, -⟩ | ⟨q1, q, q2, q3, q4⟩
          · cases q2
          · cases q2
            rw [q3, q4]
            refine Vt.leave (by decide +kernel) (by show 4 + k + 1 ≤ 21; omega) (by show 30 + 6 * k + 6 ≤ 186; omega) (fin8 (fun hg => ?_) R1 w hkp)
            have := hg.2 ((k : Int) + 2) (by omega) (by omega)
            rw [← hcc] at this
            exact hz.elim (fun q => q1 q.1) (fun q => q.2 this)
      refine x_iload d_D_rule_77 rfl ?_
      refine x_csi (As := [vi cc]) (c_D_isName cc (by omega)) cs_D_112 rfl rfl (lr rfl) d_D_rule_79 (lr rfl) hB ?_
      refine x_if_ne (tgt := 93) d_D_rule_82 rfl (by omega) (fun c2 => ?_) (fun c2 => ?_)
      · refine x_iconst d_D_rule_93 ?_
        refine x_goto (tgt := 98) d_D_rule_94 rfl ?_
        exact h98 1 (Or.inl ⟨rfl, by unfold rCls; omega⟩)
      · refine x_iload d_D_rule_85 rfl ?_
        refine x_csi (As := [vi cc]) (c_D_isLetter cc (by omega)) cs_D_120 rfl rfl (lr rfl) d_D_rule_87 (lr rfl) hB ?_
        refine x_if_eq (tgt := 97) d_D_rule_90 rfl (by omega) (fun c3 => ?_) (fun c3 => ?_)
        · refine x_iconst d_D_rule_97 ?_
          exact h98 0 (Or.inr ⟨rfl, by unfold rCls; omega⟩)
        · refine x_iconst d_D_rule_93 ?_
          refine x_goto (tgt := 98) d_D_rule_94 rfl ?_
          exact h98 1 (Or.inl ⟨rfl, by unfold rCls; omega⟩)
/-- what rule leaves -/
def ruZ (σ : xS) (R : xR) (g : xGr) (ρ : Int → Int) (e2 : Int) (n f : Int) : xZ := fun o σ' R' => ol f σ σ' ∧ fr (f + 5) σ' ∧ (∀ a, a < f → a ≠ 1 → a ≠ 2 → a ≠ 10 → a ≠ e2 → R' a = R a) ∧ R' 10 1 = 0 ∧ R' 10 3 = 0 ∧
  (((¬ rGood n (R 11) ∨ rDup g (R 11 0 - 65) (n - 2) (fun k => rSy (R 11 (k + 2)))) ∧ thr o σ' 8 ∧ R' 1 = R 1 ∧ R' 2 = R 2 ∧ (e2 < f → R' e2 = R e2)) ∨
   (rGood n (R 11) ∧ ¬ rDup g (R 11 0 - 65) (n - 2) (fun k => rSy (R 11 (k + 2))) ∧ g.1 = 10 ∧ thr o σ' 9 ∧ R' 1 = R 1 ∧ R' 2 = R 2 ∧ (e2 < f → R' e2 = R e2)) ∨
   (rGood n (R 11) ∧ ¬ rDup g (R 11 0 - 65) (n - 2) (fun k => rSy (R 11 (k + 2))) ∧ g.1 < 10 ∧ o = .returned (some (vi g.1)) ∧ (∀ j, j ≠ 12 → j ≠ 21 → j ≠ 22 → R' 1 j = R 1 j) ∧ R' 1 12 = 0 ∧ R' 1 21 = 0 ∧ R' 1 22 = 0 ∧ ∃ (ρ' : Int → Int) (e2' : Int) (cap2' : Nat), dRu σ' R' (gAdd g (R 11 0 - 65) (n - 2) (fun k => rSy (R 11 (k + 2)))) ρ' e2' cap2' ∧ (cap2' = 0 ∨ 10 ≤ cap2') ∧ (e2' = e2 ∨ f ≤ e2')))
theorem rGood_cg {n : Int} {b c : Int → Int} (h : ∀ i, 0 ≤ i → i < n → b i = c i) : rGood n b ↔ rGood n c := by
  unfold rGood rBas
  constructor
  · rintro ⟨⟨h1, h2, h3⟩, h4⟩
    exact ⟨⟨h1, by rw [← h 0 (by omega) (by omega)]; exact h2, by rw [← h 1 (by omega) (by omega)]; exact h3⟩, fun i i0 i1 => by rw [← h i (by omega) i1]; exact h4 i i0 i1⟩
  · rintro ⟨⟨h1, h2, h3⟩, h4⟩
    exact ⟨⟨h1, by rw [h 0 (by omega) (by omega)]; exact h2, by rw [h 1 (by omega) (by omega)]; exact h3⟩, fun i i0 i1 => by rw [h i (by omega) i1]; exact h4 i i0 i1⟩
theorem rDup_cg {g : xGr} {l l' len : Int} {s s' : Int → Int} (hl : l = l') (h : ∀ i, 0 ≤ i → i < len → s i = s' i) : rDup g l len s ↔ rDup g l' len s' := by
  rw [hl]
  exact ⟨fun ⟨r, r0, r1, q1, q2, q3⟩ => ⟨r, r0, r1, q1, q2, fun k k0 k1 => by rw [← h k k0 k1]; exact q3 k k0 k1⟩, fun ⟨r, r0, r1, q1, q2, q3⟩ => ⟨r, r0, r1, q1, q2, fun k k0 k1 => by rw [h k k0 k1]; exact q3 k k0 k1⟩⟩
