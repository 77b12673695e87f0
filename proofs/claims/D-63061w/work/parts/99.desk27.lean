/-! the desk: apply -/
theorem ndV_drop {e : xEn} : ∀ (n : Nat) {st : List Int}, ndV e st → ndV e (st.drop n) := by
  intro n
  induction n with
  | zero => intro st h; exact h
  | succ n ih =>
    intro st h
    cases st with
    | nil => exact h
    | cons c st => exact ih h.1
theorem stOk_drop {n : Nat} {st : List Int} (h : stOk st) : stOk (st.drop n) := fun c hc => h c (List.mem_of_mem_drop hc)
theorem drop_pre {st : List Int} {i : Nat} (hi : i < st.length) : st.drop (st.length - (i + 1)) = st.getD (st.length - 1 - i) 0 :: st.drop (st.length - i) := by
  have h1 : st.length - (i + 1) < st.length := by omega
  rw [List.drop_eq_getElem_cons h1, show st.length - (i + 1) + 1 = st.length - i by omega, List.getD_eq_getElem?_getD, show st.length - 1 - i = st.length - (i + 1) by omega, List.getElem?_eq_getElem h1]
  rfl
/-- what apply leaves -/
def apO (o : Outcome) (σ' : xS) (R R' : xR) (e : xEn) (D : List (List Int × Int)) (k : Int) : Prop := ((k < 0 ∨ (D.length : Int) ≤ k) ∧ thr o σ' 11 ∧ R' 1 = R 1 ∧ R' 8 = R 8) ∨ (0 ≤ k ∧ ∃ q, D[k.toNat]? = some q ∧ 16 < ndN e q.1 ∧ thr o σ' 9 ∧ R' 1 = R 1 ∧ R' 8 = R 8) ∨ (0 ≤ k ∧ ∃ q, D[k.toNat]? = some q ∧ ndN e q.1 ≤ 16 ∧ o = .returned (some (vi (ndN e q.1))) ∧ R' 1 5 = ndN e q.1 ∧ (∀ i, 0 ≤ i → i < ndN e q.1 → R' 8 i = ndT e q.1 i) ∧ R' 1 21 = 0 ∧ R' 1 22 = 0 ∧ ∀ j, j ≠ 5 → j ≠ 21 → j ≠ 22 → R' 1 j = R 1 j)
def apZ (σ : xS) (R : xR) (f : Int) (e : xEn) (D : List (List Int × Int)) (k : Int) : xZ := fun o σ' R' => ol f σ σ' ∧ fr (f + 1) σ' ∧ (∀ b, b < f → b ≠ 1 → b ≠ 8 → b ≠ 16 → b ≠ 17 → R' b = R b) ∧ apO o σ' R R' e D k
set_option maxHeartbeats 8000000 in
set_option maxRecDepth 100000 in
theorem c_D_apply {σ : xS} {R : xR} (hD : dSh σ) (f : Int) (hf : fr f σ) (g : xGr) (e3 n3 : Int) (cap3 : Nat) (a : auT) (D : List (List Int × Int)) (hFd : dFd R D) (hl : D.length ≤ 40) (hco : D ≠ [] → dCmp σ R g e3 n3 cap3 a) (p : Int) (hp : D ≠ [] → pR (gP g) a (R 8) (R 1 5) p ∧ 0 ≤ p) (hsz : 0 ≤ R 1 5 ∧ R 1 5 ≤ 16) (htx : ∀ k, 0 ≤ k → k < R 1 5 → 0 ≤ R 8 k ∧ R 8 k < 6) (hev : D ≠ [] → enOk (dEv R p)) (hq : ∀ q ∈ D, stOk q.1 ∧ ndV (dEv R p) q.1 ∧ q.1.length ≤ 6) (k : Int) (hk : -2147483648 ≤ k ∧ k < 2147483648) : CtT m_D_apply 7 2 12 [.ref (σ 1).1, vi k] σ R (apZ σ R f (dEv R p) D k) := by
  refine CtT.of [some (.ref (σ 1).1), some (vi k), none, none, none, none] rfl (by decide +kernel) (lr rfl) (fun X => ?_)
  obtain ⟨Z, hZ⟩ : ∃ Z : xZ, Z = apZ σ R f (dEv R p) D k := ⟨_, rfl⟩
  rw [← hZ]
  have hd1 := hD.1.at 0 (k := 1) (t := 17) (n := 0) rfl
  have hf9 := hf.1
  have e21 := hFd.2.1
  refine x_aload_n d_D_apply_0 0 rfl rfl ?_
  refine x_iload_n d_D_apply_1 1 rfl rfl ?_
  refine x_callVT 1 (As := [vi k]) (c_D_there hD k f hk (by omega) (by omega) (hf.2 f (Int.le_refl _))) cs_D_260 (thisD hD) rfl rfl (lr rfl) d_D_apply_2 (lr rfl) ⟨lr rfl, lr rfl⟩ (fun r σ2 R2 hz => ?_) (fun w σ2 R2 hz => ?_)
  · rcases hz with ⟨hk1, q2, q3, q4⟩ | ⟨-, q, q2, -⟩
    · cases q2
      rw [q3, q4]
      rw [e21] at hk1
      have hkn : k.toNat < D.length := by omega
      have hDne : D ≠ [] := fun q => by rw [q] at hkn; cases hkn
      obtain ⟨q, hDk⟩ : ∃ q, D[k.toNat]? = some q := ⟨_, List.getElem?_eq_getElem hkn⟩
      obtain ⟨f1, f2, f3⟩ := hFd.2.2 k.toNat q hDk
      rw [show ((k.toNat : Nat) : Int) = k by omega] at f1 f3
      obtain ⟨st, hst⟩ : ∃ st, st = q.1 := ⟨_, rfl⟩
      rw [← hst] at f1 f3
      obtain ⟨s1, s2, s3⟩ := hq q (List.mem_of_getElem? hDk)
      rw [← hst] at s1 s2 s3
      obtain ⟨c1, -, -, u, υ, c2, c3⟩ := hco hDne
      obtain ⟨hpr, hp0⟩ := hp hDne
      obtain ⟨e, he⟩ : ∃ e, e = dEv R p := ⟨_, rfl⟩
      have heok := hev hDne
      have e1 : e.1 = R 1 5 := by rw [he]; rfl
      have e8 : e.2.1 = R 8 := by rw [he]; rfl
      have ep : e.2.2.2.2 = p := by rw [he]; rfl
      rw [← he] at heok s2 hZ
      have hps : p ≤ R 1 5 := by have := heok.2.2.2.2; rw [ep, e1] at this; omega
      have hst8 : ∀ i, 0 ≤ i → i < R 1 5 → 0 ≤ R 8 i ∧ R 8 i < 6 := htx
      have hrow := hD.2.2 k (by omega) (by omega)
      -- the end: the text is copied back
      have h188 : ∀ R3 : xR, (∀ b, b ≠ 16 → b ≠ 17 → R3 b = R b) → (∀ i, 0 ≤ i → i < ndN e st → R3 17 i = ndT e st i) → (0 ≤ ndN e st ∧ ndN e st ≤ 16) → ∀ (v3 v5 : Option Value), V X m_D_apply (7, 2, 12, Z) σ R3 2 12 188 [some (.ref (σ 1).1), some (vi k), some (.ref (σ (450 + k)).1), v3, some (vi (ndN e st)), v5] [] := by
        intro R3 k3 h17 hn v3 v5
        have lp : ∀ (mw i : Nat) (R4 : xR), (ndN e st).toNat - i = mw → (i : Int) ≤ ndN e st → (∀ b, b ≠ 8 → R4 b = R3 b) → (∀ t, 0 ≤ t → t < (i : Int) → R4 8 t = ndT e st t) → V X m_D_apply (7, 2, 12, Z) σ R4 2 12 191 [some (.ref (σ 1).1), some (vi k), some (.ref (σ (450 + k)).1), v3, some (vi (ndN e st)), some (vi (i : Int))] [] := by
          intro mw
          induction mw using Nat.strongRecOn with
          | _ mw ih =>
            intro i R4 hm hi g1 g2
            refine x_iload d_D_apply_191 rfl ?_
            refine x_iload d_D_apply_193 rfl ?_
            refine x_icmp_ge (tgt := 218) d_D_apply_195 rfl (by omega) (by omega) (fun c => ?_) (fun c => ?_)
            · refine x_aload_n d_D_apply_218 0 rfl rfl ?_
              refine x_iload d_D_apply_219 rfl ?_
              refine x_puti 1 5 5 fp_D_236 tk_17_5 hd1 rfl rfl d_D_apply_221 (fun R5 hR5 => ?_)
              refine x_aload_n d_D_apply_224 0 rfl rfl ?_
              refine x_cvv 1 (As := []) (c_D_forget hD) cs_D_150 (thisD hD) rfl rfl (lr rfl) d_D_apply_225 (lr rfl) ⟨lr rfl, lr rfl⟩ (fun R6 hR6 => ?_)
              refine x_iload d_D_apply_228 rfl ?_
              refine x_iret d_D_apply_230 rfl (lr rfl) (lr rfl) ?_
              show Z _ _ _
              rw [hZ]
              have k6 : ∀ b, b ≠ 1 → R6 b = R4 b := fun b hb => by funext t; rw [hR6, xr_o rfl hb, xr_o rfl hb, xr_o hR5 hb]
              refine ⟨fun _ _ => rfl, hf.mono (by omega), fun b b1 b2 b3 b4 b5 => by rw [k6 b b2, g1 b b3, k3 b b4 b5], Or.inr (Or.inr ⟨by omega, q, hDk, by rw [← hst]; exact hn.2, by rw [← hst], by rw [← hst, hR6, xr_d rfl (by decide), xr_d rfl (by decide), xr_s hR5], fun t t0 t1 => by rw [← hst] at t1 ⊢; rw [k6 8 (by decide)]; exact g2 t t0 (by omega), by rw [hR6, xr_d rfl (by decide), xr_s rfl], by rw [hR6, xr_s rfl], fun j j1 j2 j3 => by rw [hR6, xr_d rfl j3, xr_d rfl j2, xr_d hR5 j1, g1 1 (by decide), k3 1 (by decide) (by decide)]⟩)⟩
            · refine x_aload_n d_D_apply_198 0 rfl rfl ?_
              refine x_getc 1 4 8 8 fl_D_32 tk_17_4 hd1 rfl rfl d_D_apply_199 ?_
              refine x_iload d_D_apply_202 rfl ?_
              refine x_aload_n d_D_apply_204 0 rfl rfl ?_
              refine x_getc 1 16 17 17 fl_D_56 tk_17_16 hd1 rfl rfl d_D_apply_205 ?_
              refine x_iload d_D_apply_208 rfl ?_
              refine x_iald 17 (ndT e st i) (hD.1.at 10 rfl) rfl ⟨by decide, rfl, by decide⟩ rfl (by omega) (by rw [g1 17 (by decide)]; exact h17 i (by omega) (by omega)) d_D_apply_210 ?_
              refine x_iast 8 (hD.1.at 4 rfl) rfl ⟨by decide, rfl, by decide⟩ rfl (by omega) d_D_apply_211 (fun R5 hR5 => ?_)
              refine x_iinc d_D_apply_212 rfl [some (.ref (σ 1).1), some (vi k), some (.ref (σ (450 + k)).1), v3, some (vi (ndN e st)), some (vi ((i + 1 : Nat) : Int))] rfl rfl (lr rfl) ?_
              refine x_goto (tgt := 191) d_D_apply_215 rfl ?_
              refine ih _ (by omega) (i + 1) R5 rfl (by omega) (fun b hb => by rw [← g1 b hb]; funext t; exact xr_o hR5 hb) (fun t t0 t1 => ?_)
              by_cases et : t = i
              · rw [et, xr_s hR5]
              · rw [xr_d hR5 et]; exact g2 t t0 (by omega)
        refine x_iconst d_D_apply_188 ?_
        refine x_istore d_D_apply_189 [some (.ref (σ 1).1), some (vi k), some (.ref (σ (450 + k)).1), v3, some (vi (ndN e st)), some (vi ((0 : Nat) : Int))] rfl rfl (lr rfl) ?_
        exact lp _ 0 R3 rfl hn.1 (fun _ _ => rfl) (fun t t0 t1 => by have : t < 0 := t1; omega)
      -- is it too long?
      have h173 : ∀ R3 : xR, (∀ b, b ≠ 16 → b ≠ 17 → R3 b = R b) → (∀ i, 0 ≤ i → i < ndN e st → R3 17 i = ndT e st i) → (0 ≤ ndN e st ∧ ndN e st ≤ 30) → ∀ (v3 v5 : Option Value), V X m_D_apply (7, 2, 12, Z) σ R3 1 6 173 [some (.ref (σ 1).1), some (vi k), some (.ref (σ (450 + k)).1), v3, some (vi (ndN e st)), v5] [] := by
        intro R3 k3 h17 hn v3 v5
        have h185 : ∀ z : Int, (z = 1 ∧ ndN e st ≤ 16) ∨ (z = 0 ∧ 16 < ndN e st) → V X m_D_apply (7, 2, 12, Z) σ R3 1 6 185 [some (.ref (σ 1).1), some (vi k), some (.ref (σ (450 + k)).1), v3, some (vi (ndN e st)), v5] [vi z] := by
          intro z hz
          refine x_callST (As := [vi z]) (c_D_state z f (by omega) (by omega) (hf.2 f (Int.le_refl _))) cs_D_139 rfl rfl (lr rfl) d_D_apply_185 (lr rfl) ⟨lr rfl, lr rfl⟩ (fun r σ4 R4 hz4 => ?_) (fun w σ4 R4 hz4 => ?_)
          · rcases hz4 with ⟨z1, z2, z3, z4⟩ | ⟨-, z, z2, -⟩
            · cases z2
              rw [z3, z4]
              exact h188 R3 k3 h17 ⟨hn.1, by omega⟩ v3 v5
            · cases z2
          · rcases hz4 with ⟨-, z2, -⟩ | ⟨z1, zq, z2, z3, z4⟩
            · cases z2
            · cases z2
              rw [z3, z4]
              refine Vt.leave (by decide +kernel) (lr rfl) (lr rfl) ?_
              show Z _ _ _
              rw [hZ]
              have kk : ∀ b, b < f → xru R3 f (fun _ => 0) b = R3 b := fun b hb => xru_ne _ _ (by omega)
              exact ⟨fun b hb => xsu_ne _ _ (by omega), hf.new (by omega) (by omega), fun b b1 _ _ b4 b5 => by rw [kk b b1, k3 b b4 b5], Or.inr (Or.inl ⟨by omega, q, hDk, by rw [← hst]; omega, ⟨w, f, rfl, by rw [xsu_self], by rw [xsu_self]⟩, by rw [kk 1 (by omega), k3 1 (by decide) (by decide)], by rw [kk 8 (by omega), k3 8 (by decide) (by decide)]⟩)⟩
        refine x_iload d_D_apply_173 rfl ?_
        refine x_bipush d_D_apply_175 rfl ?_
        refine x_icmp_gt (tgt := 184) d_D_apply_177 rfl (by omega) (by omega) (fun c => ?_) (fun c => ?_)
        · refine x_iconst d_D_apply_184 ?_
          exact h185 0 (Or.inr ⟨rfl, by omega⟩)
        · refine x_iconst d_D_apply_180 ?_
          refine x_goto (tgt := 185) d_D_apply_181 rfl ?_
          exact h185 1 (Or.inl ⟨rfl, by omega⟩)
      -- the rest of the text
      have hrg := ndV.rng heok s1 s2
      rw [ep, e1] at hrg
      obtain ⟨S, hS⟩ : ∃ S, S = (ndP e st).1 := ⟨_, rfl⟩
      obtain ⟨A, hA⟩ : ∃ A, A = (ndP e st).2.1 := ⟨_, rfl⟩
      rw [← hS, ← hA] at hrg
      have hN : ndN e st = S + (R 1 5 - A) := by unfold ndN; rw [← hS, ← hA, e1]
      have h141 : ∀ (mw : Nat) (i : Int) (R3 : xR), (R 1 5 - i).toNat = mw → A ≤ i → i ≤ R 1 5 → (∀ b, b ≠ 16 → b ≠ 17 → R3 b = R b) → (∀ t, 0 ≤ t → t < S → R3 17 t = (ndP e st).2.2.2.2 t) → (∀ t, S ≤ t → t < S + (i - A) → R3 17 t = R 8 (A + (t - S))) → V X m_D_apply (7, 2, 12, Z) σ R3 1 6 141 [some (.ref (σ 1).1), some (vi k), some (.ref (σ (450 + k)).1), some (vi A), some (vi (S + (i - A))), some (vi i)] [] := by
        intro mw
        induction mw using Nat.strongRecOn with
        | _ mw ih =>
          intro i R3 hm i0 i1 g1 g2 g3
          refine x_iload d_D_apply_141 rfl ?_
          refine x_aload_n d_D_apply_143 0 rfl rfl ?_
          refine x_geti 1 5 5 (R 1 5) fl_D_236 tk_17_5 hd1 rfl rfl (by rw [g1 1 (by decide) (by decide)]) d_D_apply_144 ?_
          refine x_icmp_ge (tgt := 173) d_D_apply_147 rfl (by omega) (by omega) (fun c => ?_) (fun c => ?_)
          · have ei : i = R 1 5 := by omega
            rw [show S + (i - A) = ndN e st by rw [hN, ei]]
            refine h173 R3 g1 (fun t t0 t1 => ?_) (by omega) _ _
            unfold ndT
            rw [← hS, ← hA, e8]
            by_cases ct : t < S
            · rw [if_pos ct]; exact g2 t t0 ct
            · rw [if_neg ct]; exact g3 t (by omega) (by omega)
          · refine x_aload_n d_D_apply_150 0 rfl rfl ?_
            refine x_getc 1 16 17 17 fl_D_56 tk_17_16 hd1 rfl rfl d_D_apply_151 ?_
            refine x_iload d_D_apply_154 rfl ?_
            refine x_iinc d_D_apply_156 rfl [some (.ref (σ 1).1), some (vi k), some (.ref (σ (450 + k)).1), some (vi A), some (vi (S + (i - A) + 1)), some (vi i)] rfl rfl (lr rfl) ?_
            refine x_aload_n d_D_apply_159 0 rfl rfl ?_
            refine x_getc 1 4 8 8 fl_D_32 tk_17_4 hd1 rfl rfl d_D_apply_160 ?_
            refine x_iload d_D_apply_163 rfl ?_
            refine x_iald 8 (R 8 i) (hD.1.at 4 rfl) rfl ⟨by decide, rfl, by decide⟩ rfl (by omega) (by rw [g1 8 (by decide) (by decide)]) d_D_apply_165 ?_
            refine x_iast 17 (hD.1.at 10 rfl) rfl ⟨by decide, rfl, by decide⟩ rfl (by omega) d_D_apply_166 (fun R4 hR4 => ?_)
            refine x_iinc d_D_apply_167 rfl [some (.ref (σ 1).1), some (vi k), some (.ref (σ (450 + k)).1), some (vi A), some (vi (S + (i - A) + 1)), some (vi (i + 1))] rfl rfl (lr rfl) ?_
            refine x_goto (tgt := 141) d_D_apply_170 rfl ?_
            rw [show S + (i - A) + 1 = S + (i + 1 - A) by omega]
            refine ih _ (by omega) (i + 1) R4 rfl (by omega) (by omega) (fun b b1 b2 => by rw [← g1 b b1 b2]; funext t; exact xr_o hR4 b2) (fun t t0 t1 => by rw [xr_d hR4 (by omega)]; exact g2 t t0 t1) (fun t t0 t1 => ?_)
            by_cases et : t = S + (i - A)
            · rw [et, xr_s hR4, show A + (S + (i - A) - S) = i by omega]
            · rw [xr_d hR4 et]; exact g3 t t0 (by omega)
      -- the steps
      have h63 : ∀ (mw i : Nat) (R3 : xR) (S' A' : Int), st.length - i = mw → i ≤ st.length → (∀ b, b ≠ 16 → b ≠ 17 → R3 b = R b) → S' = (ndP e (st.drop (st.length - i))).1 → A' = (ndP e (st.drop (st.length - i))).2.1 → (∀ t, 0 ≤ t → t < S' → R3 17 t = (ndP e (st.drop (st.length - i))).2.2.2.2 t) → V X m_D_apply (7, 2, 12, Z) σ R3 1 6 63 [some (.ref (σ 1).1), some (vi k), some (.ref (σ (450 + k)).1), some (vi A'), some (vi S'), some (vi (i : Int))] [] := by
        intro mw
        induction mw using Nat.strongRecOn with
        | _ mw ih =>
          intro i R3 S' A' hm hi g1 hS' hA' g2
          have hr' := ndV.rng heok (stOk_drop (n := st.length - i) s1) (ndV_drop (st.length - i) s2)
          have hld : ((st.drop (st.length - i)).length : Int) = i := by rw [List.length_drop]; omega
          rw [hld, ep, e1, ← hS', ← hA'] at hr'
          refine x_iload d_D_apply_63 rfl ?_
          refine x_aload_n d_D_apply_65 0 rfl rfl ?_
          refine x_getc 1 19 20 20 fl_D_67 tk_17_19 hd1 rfl rfl d_D_apply_66 ?_
          refine x_iload_n d_D_apply_69 1 rfl rfl ?_
          refine x_iald 20 (st.length : Int) (hD.1.at 13 rfl) rfl ⟨by decide, rfl, by decide⟩ rfl (by omega) (by rw [g1 20 (by decide) (by decide)]; exact f1) d_D_apply_70 ?_
          refine x_icmp_ge (tgt := 138) d_D_apply_71 rfl (by omega) (by omega) (fun c => ?_) (fun c => ?_)
          · have ei : i = st.length := by omega
            rw [ei, Nat.sub_self, List.drop_zero] at hS' hA' g2
            have eS : S' = S := hS'.trans hS.symm
            have eA : A' = A := hA'.trans hA.symm
            rw [eS] at g2
            rw [eS, eA]
            refine x_iload_n d_D_apply_138 3 rfl rfl ?_
            refine x_istore d_D_apply_139 [some (.ref (σ 1).1), some (vi k), some (.ref (σ (450 + k)).1), some (vi A), some (vi S), some (vi A)] rfl rfl (lr rfl) ?_
            have h := h141 _ A R3 rfl (Int.le_refl _) (by omega) g1 g2 (fun t t0 t1 => by omega)
            rw [show S + (A - A) = S by omega] at h
            exact h
          · have hi' : i < st.length := by omega
            obtain ⟨cc, hcc⟩ : ∃ cc, cc = st.getD (st.length - 1 - i) 0 := ⟨_, rfl⟩
            have hc7 := getD_ok s1 (st.length - 1 - i) (by omega)
            rw [← hcc] at hc7
            have hdp := drop_pre hi'
            rw [← hcc] at hdp
            have hvn : ndV e (st.drop (st.length - (i + 1))) := ndV_drop _ s2
            rw [hdp] at hvn
            have ho := hvn.2.1
            have erow : R3 (450 + k) (i : Int) = cc := by rw [g1 _ (by omega) (by omega), hcc]; exact f3 i hi'
            have hi6 : 0 ≤ (i : Int) ∧ (i : Int) < 6 := by omega
            have rd : ∀ (R4 : xR), R4 (450 + k) = R3 (450 + k) → R4 (450 + k) (i : Int) = cc := fun R4 h => by rw [h]; exact erow
            -- on with the next step
            have nxt : ∀ (R4 : xR) (S2 d : Int), (d = 0 ∨ d = 1) → R4 (450 + k) = R3 (450 + k) → (d = 1 ↔ 6 ≤ cc) → (∀ b, b ≠ 16 → b ≠ 17 → R4 b = R b) → S2 = (ndP e (st.drop (st.length - (i + 1)))).1 → A' + d = (ndP e (st.drop (st.length - (i + 1)))).2.1 → (∀ t, 0 ≤ t → t < S2 → R4 17 t = (ndP e (st.drop (st.length - (i + 1)))).2.2.2.2 t) → V X m_D_apply (7, 2, 12, Z) σ R4 1 6 115 [some (.ref (σ 1).1), some (vi k), some (.ref (σ (450 + k)).1), some (vi A'), some (vi S2), some (vi (i : Int))] [] := by
              intro R4 S2 d hd01 hrw hd6 h1 h2 h3 h4
              have fin : V X m_D_apply (7, 2, 12, Z) σ R4 1 6 130 [some (.ref (σ 1).1), some (vi k), some (.ref (σ (450 + k)).1), some (vi A'), some (vi S2), some (vi (i : Int))] [vi d, vi A'] := by
                refine x_iadd d_D_apply_130 ?_
                refine x_istore_n d_D_apply_131 3 rfl [some (.ref (σ 1).1), some (vi k), some (.ref (σ (450 + k)).1), some (vi (A' + d)), some (vi S2), some (vi (i : Int))] rfl rfl (lr rfl) ?_
                refine x_iinc d_D_apply_132 rfl [some (.ref (σ 1).1), some (vi k), some (.ref (σ (450 + k)).1), some (vi (A' + d)), some (vi S2), some (vi ((i + 1 : Nat) : Int))] rfl rfl (lr rfl) ?_
                refine x_goto (tgt := 63) d_D_apply_135 rfl ?_
                exact ih _ (by omega) (i + 1) R4 S2 (A' + d) rfl (by omega) h1 h2 h3 h4
              refine x_iload_n d_D_apply_115 3 rfl rfl ?_
              refine x_aload_n d_D_apply_116 2 rfl rfl ?_
              refine x_iload d_D_apply_117 rfl ?_
              refine x_bald (450 + k) cc hrow rfl ⟨by decide, rfl, by decide⟩ rfl hi6 (rd R4 hrw) d_D_apply_119 ?_
              refine x_bipush d_D_apply_120 rfl ?_
              refine x_icmp_lt (tgt := 129) d_D_apply_122 rfl (by omega) (by omega) (fun c4 => ?_) (fun c4 => ?_)
              · refine x_iconst d_D_apply_129 ?_
                rw [show d = 0 by omega] at fin
                exact fin
              · refine x_iconst d_D_apply_125 ?_
                refine x_goto (tgt := 130) d_D_apply_126 rfl ?_
                rw [show d = 1 by omega] at fin
                exact fin
            refine x_aload_n d_D_apply_74 2 rfl rfl ?_
            refine x_iload d_D_apply_75 rfl ?_
            refine x_bald (450 + k) cc hrow rfl ⟨by decide, rfl, by decide⟩ rfl hi6 erow d_D_apply_77 ?_
            refine x_bipush d_D_apply_78 rfl ?_
            refine x_icmp_eq (tgt := 115) d_D_apply_80 rfl (by omega) (by omega) (fun c6 => ?_) (fun c6 => ?_)
            · have hnx : ndP e (st.drop (st.length - (i + 1))) = (S', A' + 1, (ndP e (st.drop (st.length - i))).2.2.1 + e.2.2.2.1 (e.2.1 (ndP e (st.drop (st.length - i))).2.1), (ndP e (st.drop (st.length - i))).2.2.2.1, (ndP e (st.drop (st.length - i))).2.2.2.2) := by rw [hdp, c6, nd_take, ← hS', ← hA']
              exact nxt R3 S' 1 (Or.inr rfl) rfl (by omega) g1 (by rw [hnx]) (by rw [hnx]) (fun t t0 t1 => by rw [hnx]; exact g2 t t0 t1)
            · refine x_aload_n d_D_apply_83 0 rfl rfl ?_
              refine x_getc 1 16 17 17 fl_D_56 tk_17_16 hd1 rfl rfl d_D_apply_84 ?_
              refine x_iload d_D_apply_87 rfl ?_
              refine x_iinc d_D_apply_89 rfl [some (.ref (σ 1).1), some (vi k), some (.ref (σ (450 + k)).1), some (vi A'), some (vi (S' + 1)), some (vi (i : Int))] rfl rfl (lr rfl) ?_
              refine x_aload_n d_D_apply_92 2 rfl rfl ?_
              refine x_iload d_D_apply_93 rfl ?_
              refine x_bald (450 + k) cc hrow rfl ⟨by decide, rfl, by decide⟩ rfl hi6 erow d_D_apply_95 ?_
              refine x_bipush d_D_apply_96 rfl ?_
              -- the store
              have sto : ∀ (v d : Int), (d = 0 ∨ d = 1) → (d = 1 ↔ 6 ≤ cc) → (ndP e (st.drop (st.length - (i + 1)))).1 = S' + 1 → (ndP e (st.drop (st.length - (i + 1)))).2.1 = A' + d → (ndP e (st.drop (st.length - (i + 1)))).2.2.2.2 = up1 (ndP e (st.drop (st.length - i))).2.2.2.2 S' v → V X m_D_apply (7, 2, 12, Z) σ R3 1 6 114 [some (.ref (σ 1).1), some (vi k), some (.ref (σ (450 + k)).1), some (vi A'), some (vi (S' + 1)), some (vi (i : Int))] [vi v, vi S', .ref (σ 17).1] := by
                intro v d hd01 hd6 h1 h2 h3
                refine x_iast 17 (hD.1.at 10 rfl) rfl ⟨by decide, rfl, by decide⟩ rfl (by omega) d_D_apply_114 (fun R4 hR4 => ?_)
                refine nxt R4 (S' + 1) d hd01 (by funext t; exact xr_o hR4 (by omega)) hd6 (fun b b1 b2 => by rw [← g1 b b1 b2]; funext t; exact xr_o hR4 b2) h1.symm h2.symm (fun t t0 t1 => ?_)
                rw [h3]
                by_cases et : t = S'
                · rw [et, xr_s hR4, up1_s]
                · rw [xr_d hR4 et, up1_n _ _ et]; exact g2 t t0 (by omega)
              refine x_icmp_ne (tgt := 110) d_D_apply_98 rfl (by omega) (by omega) (fun c7 => ?_) (fun c7 => ?_)
              · refine x_aload_n d_D_apply_110 2 rfl rfl ?_
                refine x_iload d_D_apply_111 rfl ?_
                refine x_bald (450 + k) cc hrow rfl ⟨by decide, rfl, by decide⟩ rfl hi6 erow d_D_apply_113 ?_
                have hnx := nd_put (e := e) (st := st.drop (st.length - i)) (c := cc) (by omega)
                rw [← hdp, ← hS', ← hA'] at hnx
                exact sto cc 0 (Or.inl rfl) (by omega) (by rw [hnx]) (by rw [hnx]; show A' = A' + 0; omega) (by rw [hnx])
              · have hc8 : cc = 7 := by omega
                have hAlt : A' < R 1 5 := by
                  have hh := ho
                  rw [← hA', e1] at hh
                  omega
                refine x_aload_n d_D_apply_101 0 rfl rfl ?_
                refine x_getc 1 4 8 8 fl_D_32 tk_17_4 hd1 rfl rfl d_D_apply_102 ?_
                refine x_iload_n d_D_apply_105 3 rfl rfl ?_
                refine x_iald 8 (R 8 A') (hD.1.at 4 rfl) rfl ⟨by decide, rfl, by decide⟩ rfl (by omega) (by rw [g1 8 (by decide) (by decide)]) d_D_apply_106 ?_
                refine x_goto (tgt := 114) d_D_apply_107 rfl ?_
                have hnx := nd_pass (e := e) (st := st.drop (st.length - i))
                rw [← hc8, ← hdp, ← hS', ← hA', e8] at hnx
                exact sto (R 8 A') 1 (Or.inr rfl) (by omega) (by rw [hnx]) (by rw [hnx]) (by rw [hnx])
      -- the letters ahead
      have h31 : ∀ (mw i : Nat) (R3 : xR), p.toNat - i = mw → (i : Int) ≤ p → (∀ b, b ≠ 16 → b ≠ 17 → R3 b = R b) → (∀ t, 0 ≤ t → t < (i : Int) → R3 17 t = R 8 t) → V X m_D_apply (7, 2, 12, Z) σ R3 1 6 31 [some (.ref (σ 1).1), some (vi k), some (.ref (σ (450 + k)).1), some (vi p), some (vi (i : Int)), some (vi (i : Int))] [] := by
        intro mw
        induction mw using Nat.strongRecOn with
        | _ mw ih =>
          intro i R3 hm hi g1 g2
          refine x_iload d_D_apply_31 rfl ?_
          refine x_iload_n d_D_apply_33 3 rfl rfl ?_
          refine x_icmp_ge (tgt := 60) d_D_apply_34 rfl (by omega) (by omega) (fun c => ?_) (fun c => ?_)
          · have ei : (i : Int) = p := by omega
            rw [ei] at g2 ⊢
            refine x_iconst d_D_apply_60 ?_
            refine x_istore d_D_apply_61 [some (.ref (σ 1).1), some (vi k), some (.ref (σ (450 + k)).1), some (vi p), some (vi p), some (vi ((0 : Nat) : Int))] rfl rfl (lr rfl) ?_
            have hdn : st.drop (st.length - 0) = [] := by rw [Nat.sub_zero]; exact List.drop_length
            refine h63 _ 0 R3 p p rfl (by omega) g1 (by rw [hdn]; exact ep.symm) (by rw [hdn]; exact ep.symm) (fun t t0 t1 => ?_)
            rw [hdn]
            show R3 17 t = e.2.1 t
            rw [e8]; exact g2 t t0 t1
          · refine x_aload_n d_D_apply_37 0 rfl rfl ?_
            refine x_getc 1 16 17 17 fl_D_56 tk_17_16 hd1 rfl rfl d_D_apply_38 ?_
            refine x_iload d_D_apply_41 rfl ?_
            refine x_iinc d_D_apply_43 rfl [some (.ref (σ 1).1), some (vi k), some (.ref (σ (450 + k)).1), some (vi p), some (vi ((i + 1 : Nat) : Int)), some (vi (i : Int))] rfl rfl (lr rfl) ?_
            refine x_aload_n d_D_apply_46 0 rfl rfl ?_
            refine x_getc 1 4 8 8 fl_D_32 tk_17_4 hd1 rfl rfl d_D_apply_47 ?_
            refine x_iload d_D_apply_50 rfl ?_
            refine x_iald 8 (R 8 i) (hD.1.at 4 rfl) rfl ⟨by decide, rfl, by decide⟩ rfl (by omega) (by rw [g1 8 (by decide) (by decide)]) d_D_apply_52 ?_
            refine x_iast 17 (hD.1.at 10 rfl) rfl ⟨by decide, rfl, by decide⟩ rfl (by omega) d_D_apply_53 (fun R4 hR4 => ?_)
            refine x_iinc d_D_apply_54 rfl [some (.ref (σ 1).1), some (vi k), some (.ref (σ (450 + k)).1), some (vi p), some (vi ((i + 1 : Nat) : Int)), some (vi ((i + 1 : Nat) : Int))] rfl rfl (lr rfl) ?_
            refine x_goto (tgt := 31) d_D_apply_57 rfl ?_
            refine ih _ (by omega) (i + 1) R4 rfl (by omega) (fun b b1 b2 => by rw [← g1 b b1 b2]; funext t; exact xr_o hR4 b2) (fun t t0 t1 => ?_)
            by_cases et : t = i
            · rw [et, xr_s hR4]
            · rw [xr_d hR4 et]; exact g2 t t0 (by omega)
      refine x_aload_n d_D_apply_5 0 rfl rfl ?_
      refine x_getc 1 18 19 19 fl_D_64 tk_17_18 hd1 rfl rfl d_D_apply_6 ?_
      refine x_iload_n d_D_apply_9 1 rfl rfl ?_
      refine x_aald 19 (v := .ref (σ (450 + k)).1) (hD.1.at 12 rfl) rfl ⟨by decide, rfl, by decide⟩ (by omega) (row44 (by omega)) d_D_apply_10 ?_
      refine x_astore_n d_D_apply_11 2 rfl [some (.ref (σ 1).1), some (vi k), some (.ref (σ (450 + k)).1), none, none, none] rfl rfl (lr rfl) ?_
      refine x_aload_n d_D_apply_12 0 rfl rfl ?_
      refine x_aload_n d_D_apply_13 0 rfl rfl ?_
      refine x_getc 1 4 8 8 fl_D_32 tk_17_4 hd1 rfl rfl d_D_apply_14 ?_
      refine x_aload_n d_D_apply_17 0 rfl rfl ?_
      refine x_geti 1 5 5 (R 1 5) fl_D_236 tk_17_5 hd1 rfl rfl rfl d_D_apply_18 ?_
      refine x_cvm 1 (As := [.ref (σ 8).1, vi (R 1 5)]) (c_D_wrong hD (gP g) a u υ n3 e3 cap3 c2 c1 c3 8 (R 1 5) 16 (hD.1.at 4 rfl) (by decide) (by omega) (by omega) htx) cs_D_238 (thisD hD) rfl rfl (lr rfl) d_D_apply_21 (lr rfl) ⟨lr rfl, lr rfl⟩ (fun p' R3 hz3 => ?_)
      obtain ⟨k3, hpr'⟩ := hz3
      have epp : p' = p := pR.fun c1.1 c1.2.1 c1.2.2.1 htx hpr' hpr
      rw [epp]
      refine x_istore_n d_D_apply_24 3 rfl [some (.ref (σ 1).1), some (vi k), some (.ref (σ (450 + k)).1), some (vi p), none, none] rfl rfl (lr rfl) ?_
      refine x_iconst d_D_apply_25 ?_
      refine x_istore d_D_apply_26 [some (.ref (σ 1).1), some (vi k), some (.ref (σ (450 + k)).1), some (vi p), some (vi ((0 : Nat) : Int)), none] rfl rfl (lr rfl) ?_
      refine x_iconst d_D_apply_28 ?_
      refine x_istore d_D_apply_29 [some (.ref (σ 1).1), some (vi k), some (.ref (σ (450 + k)).1), some (vi p), some (vi ((0 : Nat) : Int)), some (vi ((0 : Nat) : Int))] rfl rfl (lr rfl) ?_
      exact h31 _ 0 R3 rfl hp0 (fun b b1 _ => k3 b b1) (fun t t0 t1 => by have : t < 0 := t1; omega)
    · cases q2
  · rcases hz with ⟨-, q2, -⟩ | ⟨q1, q, q2, q3, q4⟩
    · cases q2
    · cases q2
      rw [q3, q4]
      refine Vt.leave (by decide +kernel) (lr rfl) (lr rfl) ?_
      show Z _ _ _
      rw [hZ]
      rw [e21] at q1
      have kk : ∀ b, b < f → xru R f (fun _ => 0) b = R b := fun b hb => xru_ne _ _ (by omega)
      exact ⟨fun b hb => xsu_ne _ _ (by omega), hf.new (by omega) (by omega), fun b b1 _ _ _ _ => kk b b1, Or.inl ⟨by omega, ⟨w, f, rfl, by rw [xsu_self], by rw [xsu_self]⟩, kk 1 (by omega), kk 8 (by omega)⟩⟩
