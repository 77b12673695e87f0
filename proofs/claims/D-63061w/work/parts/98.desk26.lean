/-! the desk: repair -/
/-- what repair leaves alone -/
def rKp (f : Int) (R R' : xR) : Prop := (∀ b, b < f → b ≠ 1 → b ≠ 16 → b ≠ 17 → b ≠ 18 → b ≠ 20 → b ≠ 21 → ¬ (450 ≤ b ∧ b < 491) → R' b = R b) ∧ ∀ j, j ≠ 21 → j ≠ 22 → R' 1 j = R 1 j
def rpO (o : Outcome) (σ' : xS) (R R' : xR) (g : xGr) (a : auT) (guard : Int) : Prop := (R 1 12 = 0 ∧ thr o σ' 9 ∧ R' 1 21 = 0 ∧ R' 1 22 = 0) ∨ (R 1 12 = 1 ∧ (guard < 0 ∨ 3 < guard) ∧ thr o σ' 8 ∧ R' 1 21 = 0 ∧ R' 1 22 = 0) ∨ (R 1 12 = 1 ∧ (0 ≤ guard ∧ guard ≤ 3) ∧ ∃ p, pR (gP g) a (R 8) (R 1 5) p ∧ ((p < 0 ∧ o = .returned (some (vi 0)) ∧ R' 1 21 = 0 ∧ R' 1 22 = 0) ∨ (0 ≤ p ∧ (rsl (gP g) a (dEv R p) guard).1.length ≤ 40 ∧ o = .returned (some (vi ((rsl (gP g) a (dEv R p) guard).1.length : Int))) ∧ dFd R' (rsl (gP g) a (dEv R p) guard).1 ∧ R' 1 22 = (rsl (gP g) a (dEv R p) guard).2) ∨ (0 ≤ p ∧ 40 < (rsl (gP g) a (dEv R p) guard).1.length ∧ thr o σ' 10 ∧ R' 1 21 = 0 ∧ R' 1 22 = 0)))
def rpZ (σ : xS) (R : xR) (f : Int) (g : xGr) (a : auT) (guard : Int) : xZ := fun o σ' R' => ol f σ σ' ∧ fr (f + 1) σ' ∧ rKp f R R' ∧ rpO o σ' R R' g a guard
theorem rpZ.thr {σ : xS} {R R1 : xR} {f : Int} {g : xGr} {a : auT} {guard : Int} (hf : fr f σ) (hk : rKp f R R1) (t q : Nat) (h : ∀ R', (∀ j, R' 1 j = R1 1 j) → ∀ σ', thr (.threw q) σ' t → rpO (.threw q) σ' R R' g a guard) : rpZ σ R f g a guard (.threw q) (xsu σ f (q, t, 0)) (xru R1 f (fun _ => 0)) := by
  have hf9 := hf.1
  have kk : ∀ b, b < f → xru R1 f (fun _ => 0) b = R1 b := fun b hb => xru_ne _ _ (by omega)
  exact ⟨fun b hb => xsu_ne _ _ (by omega), hf.new (by omega) (by omega), ⟨fun b b1 b2 b3 b4 b5 b6 b7 b8 => by rw [kk b b1]; exact hk.1 b b1 b2 b3 b4 b5 b6 b7 b8, fun j j1 j2 => by rw [kk 1 (by omega)]; exact hk.2 j j1 j2⟩, h _ (fun j => by rw [kk 1 (by omega)]) _ ⟨q, f, rfl, by rw [xsu_self], by rw [xsu_self]⟩⟩
theorem tk_len {D : List (List Int × Int)} : (tk D).length = min 41 D.length := by
  unfold tk
  exact List.length_take
theorem srA_7 {g : xGr} {a : auT} {e : xEn} {c guard : Int} : [] ++ srF g a e c guard (5 + 2) [] 8 0 = srA g a e c guard := by
  rw [List.nil_append]
  unfold srA
  rfl
theorem dFd.nil {R : xR} (h : R 1 21 = 0) : dFd R [] := ⟨by decide, h, fun k q hq => by cases hq⟩
set_option maxHeartbeats 8000000 in
set_option maxRecDepth 100000 in
theorem c_D_repair {σ : xS} {R : xR} (hD : dSh σ) (f : Int) (hf : fr f σ) (g : xGr) (e3 n3 : Int) (cap3 : Nat) (a : auT) (hc : R 1 12 = 0 ∨ R 1 12 = 1) (hco : R 1 12 = 1 → dCmp σ R g e3 n3 cap3 a) (hsz : 0 ≤ R 1 5 ∧ R 1 5 ≤ 16) (htx : ∀ k, 0 ≤ k → k < R 1 5 → 0 ≤ R 8 k ∧ R 8 k < 6) (hev : ∀ p, 0 ≤ p → p ≤ R 1 5 → enOk (dEv R p)) (guard : Int) (hgd : -2147483648 ≤ guard ∧ guard < 2147483648) : CtT m_D_repair 18 3 18 [.ref (σ 1).1, vi guard] σ R (rpZ σ R f g a guard) := by
  refine CtT.of [some (.ref (σ 1).1), some (vi guard), none, none, none] rfl (by decide +kernel) (lr rfl) (fun X => ?_)
  obtain ⟨Z, hZ⟩ : ∃ Z : xZ, Z = rpZ σ R f g a guard := ⟨_, rfl⟩
  rw [← hZ]
  have hd1 := hD.1.at 0 (k := 1) (t := 17) (n := 0) rfl
  have hf9 := hf.1
  refine x_aload_n d_D_repair_0 0 rfl rfl ?_
  refine x_cvv 1 (As := []) (c_D_forget hD) cs_D_150 (thisD hD) rfl rfl (lr rfl) d_D_repair_1 (lr rfl) ⟨lr rfl, lr rfl⟩ (fun R1 hR1 => ?_)
  have k1 : ∀ b, b ≠ 1 → R1 b = R b := fun b h => by funext i; rw [hR1, xr_o rfl h, xr_o rfl h]
  have j1 : ∀ j, j ≠ 21 → j ≠ 22 → R1 1 j = R 1 j := fun j h1 h2 => by rw [hR1, xr_d rfl h2, xr_d rfl h1]
  have e21 : R1 1 21 = 0 := by rw [hR1, xr_d rfl (by decide), xr_s rfl]
  have e22 : R1 1 22 = 0 := by rw [hR1, xr_s rfl]
  have hk1 : rKp f R R1 := ⟨fun b _ b2 _ _ _ _ _ _ => k1 b b2, j1⟩
  refine x_aload_n d_D_repair_4 0 rfl rfl ?_
  refine x_geti 1 12 12 (R 1 12) fl_D_146 tk_17_12 hd1 rfl rfl (j1 12 (by decide) (by decide)) d_D_repair_5 ?_
  refine x_callST (As := [vi (R 1 12)]) (c_D_state (R 1 12) f hc (by omega) (hf.2 f (Int.le_refl _))) cs_D_139 rfl rfl (lr rfl) d_D_repair_8 (lr rfl) ⟨lr rfl, lr rfl⟩ (fun r σ1 R2 hq => ?_) (fun w σ1 R2 hq => ?_)
  · rcases hq with ⟨hc1, q2, q3, q4⟩ | ⟨-, q, q2, -⟩
    · cases q2
      rw [q3, q4]
      obtain ⟨c1, -, -, u, υ, c2, c3⟩ := hco hc1
      have hu9 := c2.2.2.1
      -- the guard
      have h25 : ∀ z : Int, (z = 1 ∧ 0 ≤ guard ∧ guard ≤ 3) ∨ (z = 0 ∧ (guard < 0 ∨ 3 < guard)) → V X m_D_repair (18, 3, 18, Z) σ R1 1 6 25 [some (.ref (σ 1).1), some (vi guard), none, none, none] [vi z] := by
        intro z hz
        refine x_callST (As := [vi z]) (c_D_need z f (by omega) (by omega) (hf.2 f (Int.le_refl _))) cs_D_116 rfl rfl (lr rfl) d_D_repair_25 (lr rfl) ⟨lr rfl, lr rfl⟩ (fun r σ1 R2 hq => ?_) (fun w σ1 R2 hq => ?_)
        · rcases hq with ⟨q1, q2, q3, q4⟩ | ⟨-, q, q2, -⟩
          · cases q2
            rw [q3, q4]
            have hg3 : 0 ≤ guard ∧ guard ≤ 3 := by omega
            have hUs1 : dUs σ R1 (gP g) u n3 υ e3 cap3 := c2.keep (k1 3 (by decide)) (k1 e3 (by omega)) (fun j j0 j1 => by
              have := (c2.2.2.2 j j0 j1).2.2.1
              exact ⟨k1 _ (by omega), k1 _ (by omega)⟩)
            have hLd1 : dLd (gP g) a u n3 R1 := c3.keep c1.2.1.2.2.1 (fun k k0 k1' => k1 _ (by omega))
            have e8 : R1 8 = R 8 := k1 8 (by decide)
            have e5 : R1 1 5 = R 1 5 := j1 5 (by decide) (by decide)
            refine x_aload_n d_D_repair_28 0 rfl rfl ?_
            refine x_aload_n d_D_repair_29 0 rfl rfl ?_
            refine x_getc 1 4 8 8 fl_D_32 tk_17_4 hd1 rfl rfl d_D_repair_30 ?_
            refine x_aload_n d_D_repair_33 0 rfl rfl ?_
            refine x_geti 1 5 5 (R 1 5) fl_D_236 tk_17_5 hd1 rfl rfl e5 d_D_repair_34 ?_
            refine x_cvm 1 (As := [.ref (σ 8).1, vi (R 1 5)]) (c_D_wrong hD (gP g) a u υ n3 e3 cap3 hUs1 c1 hLd1 8 (R 1 5) 16 (hD.1.at 4 rfl) (by decide) (by omega) (by omega) (by rw [e8]; exact htx)) cs_D_238 (thisD hD) rfl rfl (lr rfl) d_D_repair_37 (lr rfl) ⟨lr rfl, lr rfl⟩ (fun p R3 hz3 => ?_)
            obtain ⟨k3, hpr⟩ := hz3
            rw [e8] at hpr
            have hprn := pR.rng hsz.1 htx hpr
            have hk3 : rKp f R R3 := ⟨fun b b1 b2 b3 b4 b5 b6 b7 b8 => by rw [k3 b b3]; exact hk1.1 b b1 b2 b3 b4 b5 b6 b7 b8, fun j j1' j2' => by rw [k3 1 (by decide)]; exact j1 j j1' j2'⟩
            have e213 : R3 1 21 = 0 := by rw [k3 1 (by decide)]; exact e21
            have e223 : R3 1 22 = 0 := by rw [k3 1 (by decide)]; exact e22
            refine x_istore_n d_D_repair_40 2 rfl [some (.ref (σ 1).1), some (vi guard), some (vi p), none, none] rfl rfl (lr rfl) ?_
            refine x_iload_n d_D_repair_41 2 rfl rfl ?_
            refine x_if_ge (tgt := 47) d_D_repair_42 rfl (by omega) (fun cp => ?_) (fun cp => ?_)
            · have he := hev p cp (by omega)
              have ho := c1.2.1
              -- what is found for the costs so far; the memory
              have inv : ∀ R4 : xR, rKp f R R4 → lkC σ R4 (gP g) a u υ n3 e3 cap3 p ∧ dEv R4 p = dEv R p ∧ R4 8 = R 8 := by
                intro R4 hk
                have kb : ∀ b, b < f → b ≠ 1 → b ≠ 16 → b ≠ 17 → b ≠ 18 → b ≠ 20 → b ≠ 21 → ¬ (450 ≤ b ∧ b < 491) → R4 b = R b := hk.1
                have k8 : R4 8 = R 8 := kb 8 (by omega) (by decide) (by decide) (by decide) (by decide) (by decide) (by decide) (by decide)
                have ee : dEv R4 p = dEv R p := by
                  unfold dEv
                  rw [hk.2 5 (by decide) (by decide), k8, kb 6 (by omega) (by decide) (by decide) (by decide) (by decide) (by decide) (by decide) (by decide), kb 7 (by omega) (by decide) (by decide) (by decide) (by decide) (by decide) (by decide) (by decide)]
                have h3lt : e3 < f := hf.lt (by rw [(c2.2.1.arr (by have := c2.1.1; omega)).1]; exact (by decide : (38 : Nat) ≠ 0))
                refine ⟨⟨c2.keep (kb 3 (by omega) (by decide) (by decide) (by decide) (by decide) (by decide) (by decide) (by decide)) (kb e3 h3lt (by omega) (by omega) (by omega) (by omega) (by omega) (by omega) (by omega)) (fun j j0 j1 => ?_), c1, c3.keep c1.2.1.2.2.1 (fun k k0 k1' => kb _ (by omega) (by omega) (by omega) (by omega) (by omega) (by omega) (by omega) (by omega)), by rw [ee]; exact he⟩, ee, k8⟩
                obtain ⟨-, r2, r3, -⟩ := c2.2.2.2 j j0 j1
                exact ⟨kb _ (hf.lt (by rw [r2.1]; decide)) (by omega) (by omega) (by omega) (by omega) (by omega) (by omega) (by omega), kb _ (hf.lt (by rw [r2.2.1]; exact (by decide : (32 : Nat) ≠ 0))) (by omega) (by omega) (by omega) (by omega) (by omega) (by omega) (by omega)⟩
              -- the end
              have h111 : ∀ (R4 : xR) (c : Int) (D : List (List Int × Int)) (v4 : Option Value), rKp f R R4 → rI (gP g) a (dEv R p) guard c D → (c = 4 ∨ D ≠ []) → dFd R4 (tk D) → (D ≠ [] → R4 1 22 = c - 1) → V X m_D_repair (18, 3, 18, Z) σ R4 2 12 111 [some (.ref (σ 1).1), some (vi guard), some (vi p), some (vi c), v4] [] := by
                intro R4 c D v4 hk hI hx hFd h22
                have hrs := hI.fin hx
                have hlt := tk_len (D := D)
                have e214 : R4 1 21 = ((tk D).length : Int) := hFd.2.1
                have hl41 := hFd.1
                refine x_aload_n d_D_repair_111 0 rfl rfl ?_
                refine x_geti 1 21 21 ((tk D).length : Int) fl_D_95 tk_17_21 hd1 rfl rfl e214 d_D_repair_112 ?_
                refine x_bipush d_D_repair_115 rfl ?_
                refine x_icmp_le (tgt := 124) d_D_repair_117 rfl (by omega) (by omega) (fun cg => ?_) (fun cg => ?_)
                · have h40 : D.length ≤ 40 := by omega
                  have etk : tk D = D := tk_le (by omega)
                  rw [etk] at hFd e214
                  refine x_iconst d_D_repair_124 ?_
                  refine x_istore_n d_D_repair_125 3 rfl [some (.ref (σ 1).1), some (vi guard), some (vi p), some (vi 0), v4] rfl rfl (lr rfl) ?_
                  refine x_iload_n d_D_repair_126 3 rfl rfl ?_
                  refine x_if_ne (tgt := 137) d_D_repair_127 rfl (by omega) (fun c5 => by omega) (fun c5 => ?_)
                  refine x_aload_n d_D_repair_130 0 rfl rfl ?_
                  refine x_geti 1 21 21 (D.length : Int) fl_D_95 tk_17_21 hd1 rfl rfl e214 d_D_repair_131 ?_
                  have fin : ∀ R5 : xR, rKp f R R5 → dFd R5 D → R5 1 22 = (rsl (gP g) a (dEv R p) guard).2 → V X m_D_repair (18, 3, 18, Z) σ R5 2 12 141 [some (.ref (σ 1).1), some (vi guard), some (vi p), some (vi 0), v4] [] := by
                    intro R5 hk5 hF5 h225
                    refine x_iload_n d_D_repair_141 3 rfl rfl ?_
                    refine x_if_eq (tgt := 153) d_D_repair_142 rfl (by omega) (fun c6 => ?_) (fun c6 => by omega)
                    refine x_aload_n d_D_repair_153 0 rfl rfl ?_
                    refine x_geti 1 21 21 (D.length : Int) fl_D_95 tk_17_21 hd1 rfl rfl hF5.2.1 d_D_repair_154 ?_
                    refine x_iret d_D_repair_157 rfl (lr rfl) (lr rfl) ?_
                    show Z _ _ _
                    rw [hZ]
                    refine ⟨fun _ _ => rfl, hf.mono (by omega), hk5, Or.inr (Or.inr ⟨hc1, hg3, p, hpr, Or.inr (Or.inl ⟨cp, by rw [hrs]; exact h40, by rw [hrs], by rw [hrs]; exact hF5, h225⟩)⟩)⟩
                  refine x_if_ne (tgt := 141) d_D_repair_134 rfl (by omega) (fun c6 => ?_) (fun c6 => ?_)
                  · have hne : D ≠ [] := fun q => by rw [q] at c6; exact c6 rfl
                    exact fin R4 hk hFd (by rw [hrs]; show R4 1 22 = @ite Int (D = []) (Classical.propDecidable _) 0 (c - 1); rw [@if_neg _ (Classical.propDecidable _) hne]; exact h22 hne)
                  · have hem : D = [] := List.eq_nil_of_length_eq_zero (by omega)
                    refine x_aload_n d_D_repair_137 0 rfl rfl ?_
                    refine x_cvv 1 (As := []) (c_D_forget hD) cs_D_150 (thisD hD) rfl rfl (lr rfl) d_D_repair_138 (lr rfl) ⟨lr rfl, lr rfl⟩ (fun R5 hR5 => ?_)
                    refine fin R5 ⟨fun b b1 b2 b3 b4 b5 b6 b7 b8 => by rw [← hk.1 b b1 b2 b3 b4 b5 b6 b7 b8]; funext i; rw [hR5, xr_o rfl b2, xr_o rfl b2], fun j j1' j2' => by rw [hR5, xr_d rfl j2', xr_d rfl j1']; exact hk.2 j j1' j2'⟩ (by rw [hem]; exact dFd.nil (by rw [hR5, xr_d rfl (by decide), xr_s rfl])) (by rw [hrs]; show R5 1 22 = @ite Int (D = []) (Classical.propDecidable _) 0 (c - 1); rw [@if_pos _ (Classical.propDecidable _) hem, hR5, xr_s rfl])
                · have h41 : 40 < D.length := by omega
                  refine x_iconst d_D_repair_120 ?_
                  refine x_goto (tgt := 125) d_D_repair_121 rfl ?_
                  refine x_istore_n d_D_repair_125 3 rfl [some (.ref (σ 1).1), some (vi guard), some (vi p), some (vi 1), v4] rfl rfl (lr rfl) ?_
                  refine x_iload_n d_D_repair_126 3 rfl rfl ?_
                  refine x_if_ne (tgt := 137) d_D_repair_127 rfl (by omega) (fun c5 => ?_) (fun c5 => by omega)
                  refine x_aload_n d_D_repair_137 0 rfl rfl ?_
                  refine x_cvv 1 (As := []) (c_D_forget hD) cs_D_150 (thisD hD) rfl rfl (lr rfl) d_D_repair_138 (lr rfl) ⟨lr rfl, lr rfl⟩ (fun R5 hR5 => ?_)
                  refine x_iload_n d_D_repair_141 3 rfl rfl ?_
                  refine x_if_eq (tgt := 153) d_D_repair_142 rfl (by omega) (fun c6 => by omega) (fun c6 => ?_)
                  have hk5 : rKp f R R5 := ⟨fun b b1 b2 b3 b4 b5 b6 b7 b8 => by rw [← hk.1 b b1 b2 b3 b4 b5 b6 b7 b8]; funext i; rw [hR5, xr_o rfl b2, xr_o rfl b2], fun j j1' j2' => by rw [hR5, xr_d rfl j2', xr_d rfl j1']; exact hk.2 j j1' j2'⟩
                  refine x_throwNew f 10 (ci := 9) (by omega) (hf.2 f (Int.le_refl _)) (by decide) rfl ew_UOE d_D_repair_145 d_D_repair_148 d_D_repair_149 d_D_repair_152 (by decide +kernel) (lr rfl) ⟨lr rfl, lr rfl⟩ (lr rfl) (fun q => ?_)
                  show Z _ _ _
                  rw [hZ]
                  exact rpZ.thr hf hk5 10 q (fun R' h' σ' ht => Or.inr (Or.inr ⟨hc1, hg3, p, hpr, Or.inr (Or.inr ⟨cp, by rw [hrs]; exact h41, ht, by rw [h' 21, hR5, xr_d rfl (by decide), xr_s rfl], by rw [h' 22, hR5, xr_s rfl]⟩)⟩))
              -- the loop over the costs
              have lp : ∀ (mw : Nat) (c : Int) (D : List (List Int × Int)) (R4 : xR), (4 - c).toNat = mw → rKp f R R4 → rI (gP g) a (dEv R p) guard c D → dFd R4 (tk D) → (D ≠ [] → R4 1 22 = c - 1) → V X m_D_repair (18, 3, 18, Z) σ R4 2 12 49 [some (.ref (σ 1).1), some (vi guard), some (vi p), some (vi c), none] [] := by
                intro mw
                induction mw using Nat.strongRecOn with
                | _ mw ih =>
                  intro c D R4 hm hk hI hFd h22
                  have hcr := hI.1
                  refine x_iload_n d_D_repair_49 3 rfl rfl ?_
                  refine x_iconst d_D_repair_50 ?_
                  refine x_icmp_gt (tgt := 111) d_D_repair_51 rfl (by omega) (by omega) (fun c4 => ?_) (fun c4 => ?_)
                  · exact h111 R4 c D none hk hI (Or.inl (by omega)) hFd h22
                  · refine x_aload_n d_D_repair_54 0 rfl rfl ?_
                    have hlt := tk_len (D := D)
                    have hl41 := hFd.1
                    refine x_geti 1 21 21 ((tk D).length : Int) fl_D_95 tk_17_21 hd1 rfl rfl hFd.2.1 d_D_repair_55 ?_
                    refine x_if_ne (tgt := 111) d_D_repair_58 rfl (by omega) (fun c5 => ?_) (fun c5 => ?_)
                    · exact h111 R4 c D none hk hI (Or.inr (fun q => by rw [q] at c5; exact c5 rfl)) hFd h22
                    · have hem : D = [] := List.eq_nil_of_length_eq_zero (by omega)
                      -- the copying
                      have cpy : ∀ (mk k : Nat) (R5 : xR), p.toNat - k = mk → (k : Int) ≤ p → (∀ b, b ≠ 17 → R5 b = R4 b) → (∀ i, 0 ≤ i → i < (k : Int) → R5 17 i = R 8 i) → V X m_D_repair (18, 3, 18, Z) σ R5 2 12 64 [some (.ref (σ 1).1), some (vi guard), some (vi p), some (vi c), some (vi (k : Int))] [] := by
                        intro mk
                        induction mk using Nat.strongRecOn with
                        | _ mk ihk =>
                          intro k R5 hmk hkp g1 g2
                          have hk5 : rKp f R R5 := ⟨fun b b1 b2 b3 b4 b5 b6 b7 b8 => by rw [g1 b b4]; exact hk.1 b b1 b2 b3 b4 b5 b6 b7 b8, fun j j1' j2' => by rw [g1 1 (by decide)]; exact hk.2 j j1' j2'⟩
                          refine x_iload d_D_repair_64 rfl ?_
                          refine x_iload_n d_D_repair_66 2 rfl rfl ?_
                          refine x_icmp_ge (tgt := 90) d_D_repair_67 rfl (by omega) (by omega) (fun c6 => ?_) (fun c6 => ?_)
                          · refine x_aload_n d_D_repair_90 0 rfl rfl ?_
                            refine x_iload_n d_D_repair_91 3 rfl rfl ?_
                            refine x_puti 1 22 22 fp_D_99 tk_17_22 hd1 rfl rfl d_D_repair_92 (fun R6 hR6 => ?_)
                            have hk6 : rKp f R R6 := ⟨fun b b1 b2 b3 b4 b5 b6 b7 b8 => by rw [← hk5.1 b b1 b2 b3 b4 b5 b6 b7 b8]; funext i; exact xr_o hR6 b2, fun j j1' j2' => by rw [xr_d hR6 j2']; exact hk5.2 j j1' j2'⟩
                            obtain ⟨i1, i2, i3⟩ := inv R6 hk6
                            have hLK := lk_all hD (G := gP g) (a := a) (u := u) (υ := υ) (m := n3) (eU := e3) (capU := cap3) (p := p) (cost := c) (guard := guard) (by omega) hg3 5 (Nat.le_refl _) R6 [] [] p p 0 c i1 ⟨fun x hx => (by cases hx), trivial, by show (0 : Int) ≤ 3; omega, by show (0 : Int) ≤ c; omega⟩ rfl (fun k' k0 k1' => by
                              rw [i2]
                              show R6 17 k' = R 8 k'
                              have k1'' : k' < p := k1'
                              rw [xr_o hR6 (by decide)]
                              exact g2 k' k0 (by omega)) (fun i hi => by cases hi) (dFd.nil (by rw [xr_d hR6 (by decide), g1 1 (by decide), hFd.2.1, hem]; rfl)) rfl rfl rfl (by show c = c - 0; omega) (by omega)
                            rw [i2] at hLK
                            refine x_aload_n d_D_repair_95 0 rfl rfl ?_
                            refine x_iload_n d_D_repair_96 2 rfl rfl ?_
                            refine x_iload_n d_D_repair_97 2 rfl rfl ?_
                            refine x_iconst d_D_repair_98 ?_
                            refine x_iconst d_D_repair_99 ?_
                            refine x_iload_n d_D_repair_100 3 rfl rfl ?_
                            refine x_iload_n d_D_repair_101 1 rfl rfl ?_
                            refine x_csv (As := [.ref (σ 1).1, vi p, vi p, vi 0, vi 0, vi c, vi guard]) hLK cs_D_249 rfl rfl (lr rfl) d_D_repair_102 (lr rfl) ⟨lr rfl, lr rfl⟩ (fun R7 hR7 => ?_)
                            obtain ⟨z1, z2, -, -⟩ := hR7
                            rw [srA_7] at z2
                            refine x_iinc d_D_repair_105 rfl [some (.ref (σ 1).1), some (vi guard), some (vi p), some (vi (c + 1)), some (vi (k : Int))] rfl rfl (lr rfl) ?_
                            refine x_goto (tgt := 49) d_D_repair_108 rfl ?_
                            refine V.forget 4 [some (.ref (σ 1).1), some (vi guard), some (vi p), some (vi (c + 1)), none] rfl ?_
                            refine ih _ (by omega) (c + 1) (srA (gP g) a (dEv R p) c guard) R7 rfl ⟨fun b b1 b2 b3 b4 b5 b6 b7 b8 => by rw [z1.1 b b2 b3 b4 b5 b6 b7 b8]; exact hk6.1 b b1 b2 b3 b4 b5 b6 b7 b8, fun j j1' j2' => by rw [z1.2 j j1']; exact hk6.2 j j1' j2'⟩ (hI.next hem (by omega)) z2 (fun _ => by rw [z1.2 22 (by decide), xr_s hR6]; omega)
                          · refine x_aload_n d_D_repair_70 0 rfl rfl ?_
                            refine x_getc 1 16 17 17 fl_D_56 tk_17_16 hd1 rfl rfl d_D_repair_71 ?_
                            refine x_iload d_D_repair_74 rfl ?_
                            refine x_aload_n d_D_repair_76 0 rfl rfl ?_
                            refine x_getc 1 4 8 8 fl_D_32 tk_17_4 hd1 rfl rfl d_D_repair_77 ?_
                            refine x_iload d_D_repair_80 rfl ?_
                            refine x_iald 8 (R 8 k) (hD.1.at 4 rfl) rfl ⟨by decide, rfl, by decide⟩ rfl (by omega) (by rw [(inv R5 hk5).2.2]) d_D_repair_82 ?_
                            refine x_iast 17 (hD.1.at 10 rfl) rfl ⟨by decide, rfl, by decide⟩ rfl (by omega) d_D_repair_83 (fun R6 hR6 => ?_)
                            refine x_iinc d_D_repair_84 rfl [some (.ref (σ 1).1), some (vi guard), some (vi p), some (vi c), some (vi ((k + 1 : Nat) : Int))] rfl rfl (lr rfl) ?_
                            refine x_goto (tgt := 64) d_D_repair_87 rfl ?_
                            refine ihk _ (by omega) (k + 1) R6 rfl (by omega) (fun b hb => by rw [← g1 b hb]; funext i; exact xr_o hR6 hb) (fun i i0 i1 => ?_)
                            by_cases ei : i = k
                            · rw [ei, xr_s hR6]
                            · rw [xr_d hR6 ei]; exact g2 i i0 (by omega)
                      refine x_iconst d_D_repair_61 ?_
                      refine x_istore d_D_repair_62 [some (.ref (σ 1).1), some (vi guard), some (vi p), some (vi c), some (vi ((0 : Nat) : Int))] rfl rfl (lr rfl) ?_
                      exact cpy _ 0 R4 rfl cp (fun _ _ => rfl) (fun i i0 i1 => by have : i < 0 := i1; omega)
              refine x_iconst d_D_repair_47 ?_
              refine x_istore_n d_D_repair_48 3 rfl [some (.ref (σ 1).1), some (vi guard), some (vi p), some (vi 1), none] rfl rfl (lr rfl) ?_
              exact lp _ 1 [] R3 rfl hk3 ⟨by omega, fun c' x1 x2 => by omega, fun _ => rfl, fun q => by omega⟩ (dFd.nil e213) (fun q => absurd rfl q)
            · refine x_iconst d_D_repair_45 ?_
              refine x_iret d_D_repair_46 rfl (lr rfl) (lr rfl) ?_
              show Z _ _ _
              rw [hZ]
              exact ⟨fun _ _ => rfl, hf.mono (by omega), hk3, Or.inr (Or.inr ⟨hc1, hg3, p, hpr, Or.inl ⟨by omega, rfl, e213, e223⟩⟩)⟩
          · cases q2
        · rcases hq with ⟨-, q2, -⟩ | ⟨q1, q, q2, q3, q4⟩
          · cases q2
          · cases q2
            rw [q3, q4]
            refine Vt.leave (by decide +kernel) (lr rfl) (lr rfl) ?_
            show Z _ _ _
            rw [hZ]
            exact rpZ.thr hf hk1 8 w (fun R' h' σ' ht => Or.inr (Or.inl ⟨hc1, by omega, ht, by rw [h' 21]; exact e21, by rw [h' 22]; exact e22⟩))
      refine x_iload_n d_D_repair_11 1 rfl rfl ?_
      refine x_if_lt (tgt := 24) d_D_repair_12 rfl (by omega) (fun c => ?_) (fun c => ?_)
      · refine x_iconst d_D_repair_24 ?_
        exact h25 0 (Or.inr ⟨rfl, Or.inl c⟩)
      · refine x_iload_n d_D_repair_15 1 rfl rfl ?_
        refine x_iconst d_D_repair_16 ?_
        refine x_icmp_gt (tgt := 24) d_D_repair_17 rfl (by omega) (by omega) (fun c' => ?_) (fun c' => ?_)
        · refine x_iconst d_D_repair_24 ?_
          exact h25 0 (Or.inr ⟨rfl, by omega⟩)
        · refine x_iconst d_D_repair_20 ?_
          refine x_goto (tgt := 25) d_D_repair_21 rfl ?_
          exact h25 1 (Or.inl ⟨rfl, by omega, by omega⟩)
    · cases q2
  · rcases hq with ⟨-, q2, -⟩ | ⟨q1, q, q2, q3, q4⟩
    · cases q2
    · cases q2
      rw [q3, q4]
      refine Vt.leave (by decide +kernel) (lr rfl) (lr rfl) ?_
      show Z _ _ _
      rw [hZ]
      exact rpZ.thr hf hk1 9 w (fun R' h' σ' ht => Or.inl ⟨by omega, ht, by rw [h' 21]; exact e21, by rw [h' 22]; exact e22⟩)
