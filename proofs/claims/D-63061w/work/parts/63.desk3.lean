/-! the desk: the list of rules; grow (walks printed by gen/desk3.py) -/
/-- the desk's rules: those of g, rule i at region ρ i, their list's array at region e -/
def dRu (σ : xS) (R : xR) (g : xGr) (ρ : Int → Int) (e : Int) (cap : Nat) : Prop := gWf g ∧ alI σ R 2 e g.1 cap ∧ 1000 ≤ e ∧ ∀ i, 0 ≤ i → i < g.1 → R e i = ((σ (ρ i)).1 : Int) + 1 ∧ rlI σ R (ρ i) (g.2.1 i) (g.2.2.1 i).toNat (g.2.2.2 i) ∧ 1000 ≤ ρ i
theorem alI.keep {σ : xS} {R R1 : xR} {K e n : Int} {cap : Nat} (h : alI σ R K e n cap) (h1 : R1 K = R K) : alI σ R1 K e n cap := by
  obtain ⟨a1, a2, a3, a4, a5⟩ := h
  refine ⟨a1, by rw [h1]; exact a2, a3, a4, ?_⟩
  rw [h1]
  exact a5
theorem rlI.keep {σ : xS} {R R1 : xR} {k l : Int} {n : Nat} {s : Int → Int} (h : rlI σ R k l n s) (h1 : R1 k = R k) (h2 : R1 (k + 1) = R (k + 1)) : rlI σ R1 k l n s := by
  obtain ⟨a1, a2, a3, a4, a5, a6⟩ := h
  exact ⟨a1, a2, a3, by rw [h1]; exact a4, a5, fun i i0 i1 => by rw [h2]; exact a6 i i0 i1⟩
theorem dRu.keep {σ : xS} {R R1 : xR} {g : xGr} {ρ : Int → Int} {e : Int} {cap : Nat} (h : dRu σ R g ρ e cap) (h1 : ∀ a, a = 2 ∨ 1000 ≤ a → R1 a = R a) : dRu σ R1 g ρ e cap := by
  obtain ⟨a1, a2, a3, a4⟩ := h
  refine ⟨a1, a2.keep (h1 2 (Or.inl rfl)), a3, fun i i0 i1 => ?_⟩
  obtain ⟨b1, b2, b3⟩ := a4 i i0 i1
  exact ⟨by rw [h1 e (Or.inr a3)]; exact b1, b2.keep (h1 _ (Or.inr b3)) (h1 _ (Or.inr (by omega))), b3⟩
section XDR
variable {X : xCtx} {M : xM} {B : xB} {σ : xS} {R : xR} {cn sn pc : Nat} {L : List (Option Value)} {st stk : List Value}
theorem x_castR (k : Int) {a : Nat} (hs : (σ k).2 = (18, 0)) (ha : (σ k).1 = a) (hd : decode M.2.1 pc = .ok (.checkcast 123, 3)) (kk : V X M B σ R cn sn (pc + 3) L (.ref a :: st)) (hM : M.1.cls = "RepairDesk" := by rfl) : V X M B σ R cn sn pc L (.ref a :: st) :=
  x_castO k 1089 (ci := 1) (C := R_Rule) hs ha (by decide) rfl (by decide +kernel) (by rw [hM]; exact xin 571 (by decide +kernel) (by decide +kernel)) hd kk
theorem x_castS (k : Int) {a : Nat} (hs : (σ k).2 = (19, 0)) (ha : (σ k).1 = a) (hd : decode M.2.1 pc = .ok (.checkcast 171, 3)) (kk : V X M B σ R cn sn (pc + 3) L (.ref a :: st)) (hM : M.1.cls = "RepairDesk" := by rfl) : V X M B σ R cn sn pc L (.ref a :: st) :=
  x_castO k 1090 (ci := 2) (C := R_State) hs ha (by decide) rfl (by decide +kernel) (by rw [hM]; exact xin 707 (by decide +kernel) (by decide +kernel)) hd kk
theorem x_cvr (K : Int) {M' : xM} {d nargs idx a : Nat} {As : List Value} {P : Int → Prop} (ct : Ct M' d 0 0 (.ref a :: As) σ R (Zr σ R P)) (cs : xCv M.1.cls idx M' nargs) (hrc : xRc σ K a M'.1.cls) (hlen : As.length = nargs) (hstk : stk = As.reverse ++ .ref a :: st) (hcat : (st.map fun v => v.category).sum ≤ 8) (hd : decode M.2.1 pc = .ok (.invokevirtual idx, 3))
    (hB : d + 1 ≤ B.1) (hcs : cn ≤ B.2.1 ∧ sn ≤ B.2.2.1) (kk : ∀ z, P z → V X M B σ R cn sn (pc + 3) L (vi z :: st)) : V X M B σ R cn sn pc L stk :=
  x_cv K ct cs hrc hlen hstk hcat hd hB hcs (fun r σ' R' h => by
    obtain ⟨z, h1, h2, h3, h4⟩ := h
    cases h1
    subst h2
    subst h3
    exact kk z h4)
end XDR
set_option maxHeartbeats 4000000 in
set_option maxRecDepth 100000 in
theorem c_D_grow {σ : xS} {R : xR} (hD : dSh σ) (g : xGr) (ρ : Int → Int) (e : Int) (cap : Nat) (hRu : dRu σ R g ρ e cap) : Ct m_D_grow 4 0 0 [.ref (σ 1).1] σ R (Zv σ (fun R1 => dK R R1 ∧ dPr g R1)) := by
  refine Ct.of [some (.ref ((σ 1).1)), none, none, none, none, none] rfl (by decide +kernel) (lr rfl) (fun X => ?_)
  have hthis := thisD hD
  have hw := hRu.1
  have hn9 : 0 ≤ g.1 ∧ g.1 ≤ 10 := ⟨hw.1, hw.2.1⟩
  have hl2 : ∀ (m : Nat) (R1 : xR) (mo0 : Int), 2 * dW R1 + mo0.toNat = m → (mo0 = 0 ∨ mo0 = 1) → (dK R R1) → (dS g R1) → (mo0 = 0 → dPr g R1) → V X m_D_grow (4, 0, 0, Zv σ (fun R1 => dK R R1 ∧ dPr g R1)) σ R1 0 0 37 [some (.ref ((σ 1).1)), some (vi mo0), none, none, none, none] [] := by
    intro m
    induction m using Nat.strongRecOn with
    | _ m ih =>
      intro R1 mo0 hm hmo0 hK1 hS1 hP1
      refine x_iload_n d_D_grow_37 1 rfl rfl ?_
      refine x_if_eq (tgt := 222) d_D_grow_38 rfl (by omega) (fun c38 => ?_) (fun c38 => ?_)
      · exact x_vret d_D_grow_222 rfl (lr rfl) (lr rfl) (⟨rfl, rfl, hK1, hP1 (by omega)⟩)
      · refine x_iconst d_D_grow_41 ?_
        refine x_istore_n d_D_grow_42 1 rfl [some (.ref ((σ 1).1)), some (vi 0), none, none, none, none] rfl rfl (lr rfl) ?_
        refine x_iconst d_D_grow_43 ?_
        refine x_istore_n d_D_grow_44 2 rfl [some (.ref ((σ 1).1)), some (vi 0), some (vi 0), none, none, none] rfl rfl (lr rfl) ?_
        have hmo1 : mo0 = 1 := by omega
        have hl3 : ∀ (m : Nat) (k : Int) (R2 : xR) (mo : Int), (g.1 - k).toNat = m → (0 ≤ k ∧ k ≤ g.1) → (dGp g R R1 R2 k mo) → V X m_D_grow (4, 0, 0, Zv σ (fun R1 => dK R R1 ∧ dPr g R1)) σ R2 0 0 45 [some (.ref ((σ 1).1)), some (vi mo), some (vi k), none, none, none] [] := by
          intro m
          induction m using Nat.strongRecOn with
          | _ m ih3 =>
            intro k R2 mo hm3 hk1 hGp
            have hmo := hGp.m01
            have hRu2 : dRu σ R2 g ρ e cap := hRu.keep (fun a ha => hGp.1 a (by omega) (by omega) (by omega))
            have hA2 := hRu2.2.1
            have hN2 := hGp.2.1.1
            have done219 : g.1 ≤ k → V X m_D_grow (4, 0, 0, Zv σ (fun R1 => dK R R1 ∧ dPr g R1)) σ R2 0 0 219 [some (.ref ((σ 1).1)), some (vi mo), none, none, none, none] [] := by
              intro hk9
              refine x_goto (tgt := 37) d_D_grow_219 rfl ?_
              have hk8 : k = g.1 := by omega
              rw [hk8] at hGp
              have hms := hGp.meas
              have h11 : (1 : Int).toNat = 1 := rfl
              rw [hmo1] at hm
              rw [h11] at hm
              refine ih _ (by omega) R2 mo rfl hmo hGp.1 hGp.2.1 (fun q => by rw [q] at hGp; exact (hGp.done hw).2)
            refine x_iload_n d_D_grow_45 2 rfl rfl ?_
            refine x_aload_n d_D_grow_46 0 rfl rfl ?_
            refine x_getc 1 0 2 2 fl_D_10 tk_17_0 (hD.1.at 0 rfl) rfl rfl d_D_grow_47 ?_
            refine x_cvi 2 (As := []) (c_AL_size 2 e g.1 cap hA2) cs_D_128 hA2.rc rfl rfl (lr rfl) d_D_grow_50 (lr rfl) ⟨lr rfl, lr rfl⟩ ?_
            refine x_icmp_ge (tgt := 219) d_D_grow_53 rfl (by omega) (by omega) (fun c53 => ?_) (fun c53 => ?_)
            · refine V.forget 2 [some (.ref ((σ 1).1)), some (vi mo), none, none, none, none] rfl ?_
              exact done219 (by omega)
            · have hrk := (hRu2.2.2.2 k (by omega) (by omega)).2.1
              have hρ := (hRu2.2.2.2 k (by omega) (by omega)).2.2
              have hgk := hw.2.2 k (by omega) (by omega)
              have hln : ((g.2.2.1 k).toNat : Int) = g.2.2.1 k := by omega
              have hx9 := hN2 (g.2.1 k) (by omega) (by omega)
              refine x_aload_n d_D_grow_56 0 rfl rfl ?_
              refine x_getc 1 0 2 2 fl_D_10 tk_17_0 (hD.1.at 0 rfl) rfl rfl d_D_grow_57 ?_
              refine x_iload_n d_D_grow_60 2 rfl rfl ?_
              refine x_cva 2 (As := [vi k]) (c_AL_get 2 e g.1 cap hA2 k (σ (ρ k)).1 (by omega) (hRu2.2.2.2 k (by omega) (by omega)).1) cs_D_131 hA2.rc rfl rfl (lr rfl) d_D_grow_61 (lr rfl) ⟨lr rfl, lr rfl⟩ ?_
              refine x_castR (ρ k) (hrk.1) rfl d_D_grow_64 ?_
              refine x_astore_n d_D_grow_67 3 rfl [some (.ref ((σ 1).1)), some (vi mo), some (vi k), some (.ref ((σ (ρ k)).1)), none, none] rfl rfl (lr rfl) ?_
              refine x_aload_n d_D_grow_68 3 rfl rfl ?_
              refine x_getiN (ρ k) 0 0 (7 + g.2.1 k) fl_D_156 tk_18_0 hrk.1 rfl rfl hrk.2.2.2.1 d_D_grow_69 ?_
              refine x_bipush d_D_grow_72 rfl ?_
              refine x_isub d_D_grow_74 ?_
              refine V.teq (g.2.1 k) (by omega) ?_
              refine x_istore d_D_grow_75 [some (.ref ((σ 1).1)), some (vi mo), some (vi k), some (.ref ((σ (ρ k)).1)), some (vi (g.2.1 k)), none] rfl rfl (lr rfl) ?_
              refine x_aload_n d_D_grow_77 0 rfl rfl ?_
              refine x_aload_n d_D_grow_78 3 rfl rfl ?_
              have hLq : (∀ j, 0 ≤ j → j < ((g.2.2.1 k).toNat : Int) → dL R2 (g.2.2.2 k) j) ↔ (∀ j, 0 ≤ j → j < g.2.2.1 k → dL R2 (g.2.2.2 k) j) := by rw [hln]
              have hz9 := zc_or (∀ j, 0 ≤ j → j < ((g.2.2.1 k).toNat : Int) → dL R2 (g.2.2.2 k) j)
              refine x_cvi 1 (As := [.ref ((σ (ρ k)).1)]) (c_D_isLiving (R := R2) hD (ρ k) (g.2.1 k) _ (g.2.2.2 k) hrk hN2) cs_D_159 hthis rfl rfl (lr rfl) d_D_grow_79 (lr rfl) ⟨lr rfl, lr rfl⟩ ?_
              refine x_if_ne (tgt := 88) d_D_grow_82 rfl (by omega) (fun c82 => ?_) (fun c82 => ?_)
              · have hliv := hLq.mp (zc_ne.mp (by omega))
                have h181 : ∀ (fz ez : Int) (R3 : xR), (fz = 0 ∨ fz = 1) → (fz = 0 → dNo g R2 k) → (fz ≠ 0 → dYe g R2 k) → R3 = xup R2 12 (g.2.1 k) 1 → ez = zc (R2 13 (g.2.1 k) ≠ 0 ∨ ∀ j, 0 ≤ j → j < g.2.2.1 k → dE R2 (g.2.2.2 k) j) → V X m_D_grow (4, 0, 0, Zv σ (fun R1 => dK R R1 ∧ dPr g R1)) σ R3 0 0 181 [some (.ref ((σ 1).1)), some (vi mo), some (vi k), some (.ref ((σ (ρ k)).1)), some (vi (g.2.1 k)), some (vi fz)] [vi ez, vi (g.2.1 k), .ref (σ 13).1] := by
                  intro fz ez R3 hfz hf0 hf1 hR3 he
                  refine x_zast 13 (hD.1.at 6 rfl) rfl ⟨by decide, rfl, by decide⟩ rfl (by omega) (narz (by rw [he]; exact zc_or _)) d_D_grow_181 (fun Q1 hQ1 => ?_)
                  refine x_aload_n d_D_grow_182 0 rfl rfl ?_
                  refine x_getc 1 8 14 14 fl_D_42 tk_17_8 (hD.1.at 0 rfl) rfl rfl d_D_grow_183 ?_
                  refine x_iload d_D_grow_186 rfl ?_
                  refine x_dup2 d_D_grow_188 rfl rfl ?_
                  refine x_iald 14 (R2 14 (g.2.1 k)) (hD.1.at 7 rfl) rfl ⟨by decide, rfl, by decide⟩ rfl (by omega) ((xr_o hQ1 (by decide)).trans (xr_o hR3 (by decide))) d_D_grow_189 ?_
                  refine x_aload_n d_D_grow_190 0 rfl rfl ?_
                  refine x_aload_n d_D_grow_191 3 rfl rfl ?_
                  refine x_iconst d_D_grow_192 ?_
                  have hrk4 : rlI σ Q1 (ρ k) (g.2.1 k) (g.2.2.1 k).toNat (g.2.2.2 k) := hrk.keep (by rw [hQ1, hR3]; funext b; rw [xup_ne (by omega), xup_ne (by omega)]) (by rw [hQ1, hR3]; funext b; rw [xup_ne (by omega), xup_ne (by omega)])
                  have hN4 : dNm Q1 := fun x x0 x1 => by
                    have h1 := hN2 x x0 x1
                    refine ⟨?_, ?_, ?_⟩
                    · rw [xr_o hQ1 (by decide)]
                      by_cases c : x = g.2.1 k
                      · rw [xr_e hR3 c]; exact Or.inr rfl
                      · rw [xr_d hR3 c]; exact h1.1
                    · by_cases c : x = g.2.1 k
                      · rw [xr_e hQ1 c, he]; exact zc_or _
                      · rw [xr_d hQ1 c, xr_o hR3 (by decide)]; exact h1.2.1
                    · rw [xr_o hQ1 (by decide), xr_o hR3 (by decide)]; exact h1.2.2
                  refine x_cvr 1 (As := [.ref ((σ (ρ k)).1), vi 0]) (c_D_firsts (R := Q1) hD (ρ k) (g.2.1 k) _ (g.2.2.2 k) hrk4 hN4 0 (by omega)) cs_D_166 hthis rfl rfl (lr rfl) d_D_grow_193 (lr rfl) ⟨lr rfl, lr rfl⟩ (fun z2 hz2 => ?_)
                  refine x_ior d_D_grow_196 (ior (R2 14 (g.2.1 k)) z2) (iI_ior hx9.2.2.1 hz2.1.1) ?_
                  refine x_iast 14 (hD.1.at 7 rfl) rfl ⟨by decide, rfl, by decide⟩ rfl (by omega) d_D_grow_197 (fun Q3 hQ3 => ?_)
                  refine x_iload_n d_D_grow_198 1 rfl rfl ?_
                  refine x_if_ne (tgt := 207) d_D_grow_199 rfl (by omega) (fun c199 => ?_) (fun c199 => ?_)
                  · refine x_iconst d_D_grow_207 ?_
                    refine x_goto (tgt := 212) d_D_grow_208 rfl ?_
                    refine x_istore_n d_D_grow_212 1 rfl [some (.ref ((σ 1).1)), some (vi 1), some (vi k), some (.ref ((σ (ρ k)).1)), some (vi (g.2.1 k)), some (vi fz)] rfl rfl (lr rfl) ?_
                    refine x_iinc d_D_grow_213 rfl [some (.ref ((σ 1).1)), some (vi 1), some (vi (k + 1)), some (.ref ((σ (ρ k)).1)), some (vi (g.2.1 k)), some (vi fz)] rfl rfl (lr rfl) ?_
                    refine x_goto (tgt := 45) d_D_grow_216 rfl ?_
                    refine V.forget 3 [some (.ref ((σ 1).1)), some (vi 1), some (vi (k + 1)), none, some (vi (g.2.1 k)), some (vi fz)] rfl ?_
                    refine V.forget 4 [some (.ref ((σ 1).1)), some (vi 1), some (vi (k + 1)), none, none, some (vi fz)] rfl ?_
                    refine V.forget 5 [some (.ref ((σ 1).1)), some (vi 1), some (vi (k + 1)), none, none, none] rfl ?_
                    exact ih3 _ (by omega) (k + 1) Q3 1 rfl (by omega) (dGp.yes hw (by omega) hGp hliv hf0 hf1 hR3 he hQ1 hz2.1 (fun t t0 => by have := hz2.2 t t0; rw [hln] at this; exact this) hQ3 (Or.inr ⟨rfl, by omega⟩))
                  · refine x_iload d_D_grow_202 rfl ?_
                    refine x_if_eq (tgt := 211) d_D_grow_204 rfl (by omega) (fun c204 => ?_) (fun c204 => ?_)
                    · refine x_iconst d_D_grow_211 ?_
                      refine x_istore_n d_D_grow_212 1 rfl [some (.ref ((σ 1).1)), some (vi 0), some (vi k), some (.ref ((σ (ρ k)).1)), some (vi (g.2.1 k)), some (vi fz)] rfl rfl (lr rfl) ?_
                      refine x_iinc d_D_grow_213 rfl [some (.ref ((σ 1).1)), some (vi 0), some (vi (k + 1)), some (.ref ((σ (ρ k)).1)), some (vi (g.2.1 k)), some (vi fz)] rfl rfl (lr rfl) ?_
                      refine x_goto (tgt := 45) d_D_grow_216 rfl ?_
                      refine V.forget 3 [some (.ref ((σ 1).1)), some (vi 0), some (vi (k + 1)), none, some (vi (g.2.1 k)), some (vi fz)] rfl ?_
                      refine V.forget 4 [some (.ref ((σ 1).1)), some (vi 0), some (vi (k + 1)), none, none, some (vi fz)] rfl ?_
                      refine V.forget 5 [some (.ref ((σ 1).1)), some (vi 0), some (vi (k + 1)), none, none, none] rfl ?_
                      exact ih3 _ (by omega) (k + 1) Q3 0 rfl (by omega) (dGp.yes hw (by omega) hGp hliv hf0 hf1 hR3 he hQ1 hz2.1 (fun t t0 => by have := hz2.2 t t0; rw [hln] at this; exact this) hQ3 (Or.inl ⟨rfl, by omega, by omega⟩))
                    · refine x_iconst d_D_grow_207 ?_
                      refine x_goto (tgt := 212) d_D_grow_208 rfl ?_
                      refine x_istore_n d_D_grow_212 1 rfl [some (.ref ((σ 1).1)), some (vi 1), some (vi k), some (.ref ((σ (ρ k)).1)), some (vi (g.2.1 k)), some (vi fz)] rfl rfl (lr rfl) ?_
                      refine x_iinc d_D_grow_213 rfl [some (.ref ((σ 1).1)), some (vi 1), some (vi (k + 1)), some (.ref ((σ (ρ k)).1)), some (vi (g.2.1 k)), some (vi fz)] rfl rfl (lr rfl) ?_
                      refine x_goto (tgt := 45) d_D_grow_216 rfl ?_
                      refine V.forget 3 [some (.ref ((σ 1).1)), some (vi 1), some (vi (k + 1)), none, some (vi (g.2.1 k)), some (vi fz)] rfl ?_
                      refine V.forget 4 [some (.ref ((σ 1).1)), some (vi 1), some (vi (k + 1)), none, none, some (vi fz)] rfl ?_
                      refine V.forget 5 [some (.ref ((σ 1).1)), some (vi 1), some (vi (k + 1)), none, none, none] rfl ?_
                      exact ih3 _ (by omega) (k + 1) Q3 1 rfl (by omega) (dGp.yes hw (by omega) hGp hliv hf0 hf1 hR3 he hQ1 hz2.1 (fun t t0 => by have := hz2.2 t t0; rw [hln] at this; exact this) hQ3 (Or.inr ⟨rfl, by omega⟩))
                have h141 : ∀ fz : Int, (fz = 0 ∨ fz = 1) → (fz = 0 → dNo g R2 k) → (fz ≠ 0 → dYe g R2 k) → V X m_D_grow (4, 0, 0, Zv σ (fun R1 => dK R R1 ∧ dPr g R1)) σ R2 0 0 141 [some (.ref ((σ 1).1)), some (vi mo), some (vi k), some (.ref ((σ (ρ k)).1)), some (vi (g.2.1 k)), none] [vi fz] := by
                  intro fz hfz hf0 hf1
                  refine x_istore d_D_grow_141 [some (.ref ((σ 1).1)), some (vi mo), some (vi k), some (.ref ((σ (ρ k)).1)), some (vi (g.2.1 k)), some (vi fz)] rfl rfl (lr rfl) ?_
                  refine x_aload_n d_D_grow_143 0 rfl rfl ?_
                  refine x_getc 1 6 12 12 fl_D_35 tk_17_6 (hD.1.at 0 rfl) rfl rfl d_D_grow_144 ?_
                  refine x_iload d_D_grow_147 rfl ?_
                  refine x_iconst d_D_grow_149 ?_
                  refine x_zast 12 (hD.1.at 5 rfl) rfl ⟨by decide, rfl, by decide⟩ rfl (by omega) (narz (Or.inr rfl)) d_D_grow_150 (fun Q1 hQ1 => ?_)
                  refine x_aload_n d_D_grow_151 0 rfl rfl ?_
                  refine x_getc 1 7 13 13 fl_D_39 tk_17_7 (hD.1.at 0 rfl) rfl rfl d_D_grow_152 ?_
                  refine x_iload d_D_grow_155 rfl ?_
                  refine x_aload_n d_D_grow_157 0 rfl rfl ?_
                  refine x_getc 1 7 13 13 fl_D_39 tk_17_7 (hD.1.at 0 rfl) rfl rfl d_D_grow_158 ?_
                  refine x_iload d_D_grow_161 rfl ?_
                  refine x_zald 13 (R2 13 (g.2.1 k)) (hD.1.at 6 rfl) rfl ⟨by decide, rfl, by decide⟩ rfl (by omega) (xr_o hQ1 (by decide)) d_D_grow_163 ?_
                  refine x_if_ne (tgt := 176) d_D_grow_164 rfl (by omega) (fun c164 => ?_) (fun c164 => ?_)
                  · refine x_iconst d_D_grow_176 ?_
                    refine x_goto (tgt := 181) d_D_grow_177 rfl ?_
                    exact h181 fz 1 Q1 hfz hf0 hf1 hQ1 (by
                      first
                      | exact (zc_t (Or.inl (by omega))).symm
                      | exact (zc_t (Or.inr (hEq.mp (zc_ne.mp (by omega))))).symm)
                  · refine x_aload_n d_D_grow_167 0 rfl rfl ?_
                    refine x_aload_n d_D_grow_168 3 rfl rfl ?_
                    refine x_iconst d_D_grow_169 ?_
                    have hrk3 : rlI σ Q1 (ρ k) (g.2.1 k) (g.2.2.1 k).toNat (g.2.2.2 k) := hrk.keep (by rw [hQ1]; funext b; rw [xup_ne (by omega)]) (by rw [hQ1]; funext b; rw [xup_ne (by omega)])
                    have hN3 : dNm Q1 := fun x x0 x1 => by
                      have h1 := hN2 x x0 x1
                      refine ⟨?_, by rw [xr_o hQ1 (by decide)]; exact h1.2.1, by rw [xr_o hQ1 (by decide)]; exact h1.2.2⟩
                      by_cases c : x = g.2.1 k
                      · rw [xr_e hQ1 c]; exact Or.inr rfl
                      · rw [xr_d hQ1 c]; exact h1.1
                    have hEq : (∀ j, 0 ≤ j → j < ((g.2.2.1 k).toNat : Int) → dE Q1 (g.2.2.2 k) j) ↔ (∀ j, 0 ≤ j → j < g.2.2.1 k → dE R2 (g.2.2.2 k) j) := by
                      rw [hln]
                      have e13 : Q1 13 = R2 13 := by funext b; exact xr_o hQ1 (by decide)
                      unfold dE
                      rw [e13]
                    have hz8 := zc_or (∀ j, 0 ≤ j → j < ((g.2.2.1 k).toNat : Int) → dE Q1 (g.2.2.2 k) j)
                    refine x_cvi 1 (As := [.ref ((σ (ρ k)).1), vi 0]) (c_D_empty (R := Q1) hD (ρ k) (g.2.1 k) _ (g.2.2.2 k) hrk3 hN3 0 (by omega)) cs_D_162 hthis rfl rfl (lr rfl) d_D_grow_170 (lr rfl) ⟨lr rfl, lr rfl⟩ ?_
                    refine x_if_eq (tgt := 180) d_D_grow_173 rfl (by omega) (fun c173 => ?_) (fun c173 => ?_)
                    · refine x_iconst d_D_grow_180 ?_
                      exact h181 fz 0 Q1 hfz hf0 hf1 hQ1 (by
                        exact (zc_f (fun q => by rcases q with q | q; (omega); (have := zc_t (hEq.mpr q); omega))).symm)
                    · refine x_iconst d_D_grow_176 ?_
                      refine x_goto (tgt := 181) d_D_grow_177 rfl ?_
                      exact h181 fz 1 Q1 hfz hf0 hf1 hQ1 (by
                        first
                        | exact (zc_t (Or.inl (by omega))).symm
                        | exact (zc_t (Or.inr (hEq.mp (zc_ne.mp (by omega))))).symm)
                refine x_aload_n d_D_grow_88 0 rfl rfl ?_
                refine x_getc 1 6 12 12 fl_D_35 tk_17_6 (hD.1.at 0 rfl) rfl rfl d_D_grow_89 ?_
                refine x_iload d_D_grow_92 rfl ?_
                refine x_zald 12 (R2 12 (g.2.1 k)) (hD.1.at 5 rfl) rfl ⟨by decide, rfl, by decide⟩ rfl (by omega) rfl d_D_grow_94 ?_
                refine x_if_eq (tgt := 136) d_D_grow_95 rfl (by omega) (fun c95 => ?_) (fun c95 => ?_)
                · refine x_iconst d_D_grow_136 ?_
                  refine x_goto (tgt := 141) d_D_grow_137 rfl ?_
                  exact h141 1 (Or.inr rfl) (fun q => by omega) (fun _ => by
                    first
                    | exact Or.inl (by omega)
                    | exact Or.inr (Or.inl ⟨by omega, hEq.mp (zc_ne.mp (by omega))⟩)
                    | exact hex (by omega))
                · refine x_aload_n d_D_grow_98 0 rfl rfl ?_
                  refine x_getc 1 7 13 13 fl_D_39 tk_17_7 (hD.1.at 0 rfl) rfl rfl d_D_grow_99 ?_
                  refine x_iload d_D_grow_102 rfl ?_
                  refine x_zald 13 (R2 13 (g.2.1 k)) (hD.1.at 6 rfl) rfl ⟨by decide, rfl, by decide⟩ rfl (by omega) rfl d_D_grow_104 ?_
                  refine x_if_ne (tgt := 117) d_D_grow_105 rfl (by omega) (fun c105 => ?_) (fun c105 => ?_)
                  · refine x_aload_n d_D_grow_117 0 rfl rfl ?_
                    refine x_aload_n d_D_grow_118 3 rfl rfl ?_
                    refine x_iconst d_D_grow_119 ?_
                    have hA : (∀ j, 0 ≤ j → j < g.2.2.1 k → dE R2 (g.2.2.2 k) j) → R2 13 (g.2.1 k) ≠ 0 := fun q => by
                      first
                      | omega
                      | (have := zc_t (hEq.mpr q); omega)
                    refine x_cvr 1 (As := [.ref ((σ (ρ k)).1), vi 0]) (c_D_firsts (R := R2) hD (ρ k) (g.2.1 k) _ (g.2.2.2 k) hrk hN2 0 (by omega)) cs_D_166 hthis rfl rfl (lr rfl) d_D_grow_120 (lr rfl) ⟨lr rfl, lr rfl⟩ (fun z1 hz1 => ?_)
                    obtain ⟨hz7, hzb0⟩ := hz1
                    have hzb : ∀ t, 0 ≤ t → (hb z1 t ↔ dF R2 (g.2.2.2 k) 0 (g.2.2.1 k) t) := fun t t0 => by have := hzb0 t t0; rw [hln] at this; exact this
                    have hd7 := idif_s7 (b := R2 14 (g.2.1 k)) hz7
                    have hd8 := hd7.1
                    have hd9 := hd7.2
                    have hex : idif z1 (R2 14 (g.2.1 k)) ≠ 0 → dYe g R2 k := fun q => by
                      obtain ⟨t, t0, t1, t2⟩ := (s7_ne0 hd7).mp q
                      have := (hb_idif hx9.2.2 ⟨t0, t1⟩).mp t2
                      exact Or.inr (Or.inr ⟨t, t0, (hzb t t0).mp this.1, this.2⟩)
                    refine x_aload_n d_D_grow_123 0 rfl rfl ?_
                    refine x_getc 1 8 14 14 fl_D_42 tk_17_8 (hD.1.at 0 rfl) rfl rfl d_D_grow_124 ?_
                    refine x_iload d_D_grow_127 rfl ?_
                    refine x_iald 14 (R2 14 (g.2.1 k)) (hD.1.at 7 rfl) rfl ⟨by decide, rfl, by decide⟩ rfl (by omega) rfl d_D_grow_129 ?_
                    refine x_iconst d_D_grow_130 ?_
                    refine x_ixor d_D_grow_131 (-1 - R2 14 (g.2.1 k)) (iI_xm1 hx9.2.2) ?_
                    refine x_iand d_D_grow_132 (idif z1 (R2 14 (g.2.1 k))) (iI_idif hz7 hx9.2.2) ?_
                    refine x_if_eq (tgt := 140) d_D_grow_133 rfl (by omega) (fun c133 => ?_) (fun c133 => ?_)
                    · refine x_iconst d_D_grow_140 ?_
                      exact h141 0 (Or.inl rfl) (fun _ => ⟨by omega, hA, fun t t0 q => (idif_0 hz7 hx9.2.2).mp (by omega) t t0 (hb_lt hz7 (hzb t t0 |>.mpr q) t0) ((hzb t t0).mpr q)⟩) (fun q => absurd rfl q)
                    · refine x_iconst d_D_grow_136 ?_
                      refine x_goto (tgt := 141) d_D_grow_137 rfl ?_
                      exact h141 1 (Or.inr rfl) (fun q => by omega) (fun _ => by
                        first
                        | exact Or.inl (by omega)
                        | exact Or.inr (Or.inl ⟨by omega, hEq.mp (zc_ne.mp (by omega))⟩)
                        | exact hex (by omega))
                  · refine x_aload_n d_D_grow_108 0 rfl rfl ?_
                    refine x_aload_n d_D_grow_109 3 rfl rfl ?_
                    refine x_iconst d_D_grow_110 ?_
                    have hEq : (∀ j, 0 ≤ j → j < ((g.2.2.1 k).toNat : Int) → dE R2 (g.2.2.2 k) j) ↔ (∀ j, 0 ≤ j → j < g.2.2.1 k → dE R2 (g.2.2.2 k) j) := by rw [hln]
                    have hz8 := zc_or (∀ j, 0 ≤ j → j < ((g.2.2.1 k).toNat : Int) → dE R2 (g.2.2.2 k) j)
                    refine x_cvi 1 (As := [.ref ((σ (ρ k)).1), vi 0]) (c_D_empty (R := R2) hD (ρ k) (g.2.1 k) _ (g.2.2.2 k) hrk hN2 0 (by omega)) cs_D_162 hthis rfl rfl (lr rfl) d_D_grow_111 (lr rfl) ⟨lr rfl, lr rfl⟩ ?_
                    refine x_if_ne (tgt := 136) d_D_grow_114 rfl (by omega) (fun c114 => ?_) (fun c114 => ?_)
                    · refine x_iconst d_D_grow_136 ?_
                      refine x_goto (tgt := 141) d_D_grow_137 rfl ?_
                      exact h141 1 (Or.inr rfl) (fun q => by omega) (fun _ => by
                        first
                        | exact Or.inl (by omega)
                        | exact Or.inr (Or.inl ⟨by omega, hEq.mp (zc_ne.mp (by omega))⟩)
                        | exact hex (by omega))
                    · refine x_aload_n d_D_grow_117 0 rfl rfl ?_
                      refine x_aload_n d_D_grow_118 3 rfl rfl ?_
                      refine x_iconst d_D_grow_119 ?_
                      have hA : (∀ j, 0 ≤ j → j < g.2.2.1 k → dE R2 (g.2.2.2 k) j) → R2 13 (g.2.1 k) ≠ 0 := fun q => by
                        first
                        | omega
                        | (have := zc_t (hEq.mpr q); omega)
                      refine x_cvr 1 (As := [.ref ((σ (ρ k)).1), vi 0]) (c_D_firsts (R := R2) hD (ρ k) (g.2.1 k) _ (g.2.2.2 k) hrk hN2 0 (by omega)) cs_D_166 hthis rfl rfl (lr rfl) d_D_grow_120 (lr rfl) ⟨lr rfl, lr rfl⟩ (fun z2 hz2 => ?_)
                      obtain ⟨hz7, hzb0⟩ := hz2
                      have hzb : ∀ t, 0 ≤ t → (hb z2 t ↔ dF R2 (g.2.2.2 k) 0 (g.2.2.1 k) t) := fun t t0 => by have := hzb0 t t0; rw [hln] at this; exact this
                      have hd7 := idif_s7 (b := R2 14 (g.2.1 k)) hz7
                      have hd8 := hd7.1
                      have hd9 := hd7.2
                      have hex : idif z2 (R2 14 (g.2.1 k)) ≠ 0 → dYe g R2 k := fun q => by
                        obtain ⟨t, t0, t1, t2⟩ := (s7_ne0 hd7).mp q
                        have := (hb_idif hx9.2.2 ⟨t0, t1⟩).mp t2
                        exact Or.inr (Or.inr ⟨t, t0, (hzb t t0).mp this.1, this.2⟩)
                      refine x_aload_n d_D_grow_123 0 rfl rfl ?_
                      refine x_getc 1 8 14 14 fl_D_42 tk_17_8 (hD.1.at 0 rfl) rfl rfl d_D_grow_124 ?_
                      refine x_iload d_D_grow_127 rfl ?_
                      refine x_iald 14 (R2 14 (g.2.1 k)) (hD.1.at 7 rfl) rfl ⟨by decide, rfl, by decide⟩ rfl (by omega) rfl d_D_grow_129 ?_
                      refine x_iconst d_D_grow_130 ?_
                      refine x_ixor d_D_grow_131 (-1 - R2 14 (g.2.1 k)) (iI_xm1 hx9.2.2) ?_
                      refine x_iand d_D_grow_132 (idif z2 (R2 14 (g.2.1 k))) (iI_idif hz7 hx9.2.2) ?_
                      refine x_if_eq (tgt := 140) d_D_grow_133 rfl (by omega) (fun c133 => ?_) (fun c133 => ?_)
                      · refine x_iconst d_D_grow_140 ?_
                        exact h141 0 (Or.inl rfl) (fun _ => ⟨by omega, hA, fun t t0 q => (idif_0 hz7 hx9.2.2).mp (by omega) t t0 (hb_lt hz7 (hzb t t0 |>.mpr q) t0) ((hzb t t0).mpr q)⟩) (fun q => absurd rfl q)
                      · refine x_iconst d_D_grow_136 ?_
                        refine x_goto (tgt := 141) d_D_grow_137 rfl ?_
                        exact h141 1 (Or.inr rfl) (fun q => by omega) (fun _ => by
                          first
                          | exact Or.inl (by omega)
                          | exact Or.inr (Or.inl ⟨by omega, hEq.mp (zc_ne.mp (by omega))⟩)
                          | exact hex (by omega))
              · refine x_goto (tgt := 213) d_D_grow_85 rfl ?_
                refine x_iinc d_D_grow_213 rfl [some (.ref ((σ 1).1)), some (vi mo), some (vi (k + 1)), some (.ref ((σ (ρ k)).1)), some (vi (g.2.1 k)), none] rfl rfl (lr rfl) ?_
                refine x_goto (tgt := 45) d_D_grow_216 rfl ?_
                refine V.forget 3 [some (.ref ((σ 1).1)), some (vi mo), some (vi (k + 1)), none, some (vi (g.2.1 k)), none] rfl ?_
                refine V.forget 4 [some (.ref ((σ 1).1)), some (vi mo), some (vi (k + 1)), none, none, none] rfl ?_
                exact ih3 _ (by omega) (k + 1) R2 mo rfl (by omega) (hGp.no hw (by omega) (fun q => by have := zc_t (hLq.mpr q); omega))
        exact hl3 _ 0 R1 0 rfl (by omega) (dGp.zero hK1 hS1)
  have hl : ∀ (m : Nat) (k : Int) (R1 : xR), (6 - k).toNat = m → (0 ≤ k ∧ k ≤ 6) → (dK R R1) → (∀ x, 0 ≤ x → x < k → R1 12 x = 0 ∧ R1 13 x = 0 ∧ R1 14 x = 0) → V X m_D_grow (4, 0, 0, Zv σ (fun R1 => dK R R1 ∧ dPr g R1)) σ R1 0 0 2 [some (.ref ((σ 1).1)), some (vi k), none, none, none, none] [] := by
    intro m
    induction m using Nat.strongRecOn with
    | _ m ih =>
      intro k R1 hm hk1 hK hZ
      refine x_iload_n d_D_grow_2 1 rfl rfl ?_
      refine x_bipush d_D_grow_3 rfl ?_
      refine x_icmp_ge (tgt := 35) d_D_grow_5 rfl (by omega) (by omega) (fun c5 => ?_) (fun c5 => ?_)
      · refine x_iconst d_D_grow_35 ?_
        refine x_istore_n d_D_grow_36 1 rfl [some (.ref ((σ 1).1)), some (vi 1), none, none, none, none] rfl rfl (lr rfl) ?_
        have hz0 : ∀ x, 0 ≤ x → x ≤ 5 → R1 12 x = 0 ∧ R1 13 x = 0 ∧ R1 14 x = 0 := fun x x0 x1 => hZ x x0 (by omega)
        refine hl2 _ R1 1 rfl (Or.inr rfl) hK ⟨fun x x0 x1 => ?_, fun x x0 x1 => ?_⟩ (fun q => by omega)
        · obtain ⟨z1, z2, z3⟩ := hz0 x x0 x1
          rw [z1, z2, z3]
          exact ⟨Or.inl rfl, Or.inl rfl, by unfold s7; omega⟩
        · obtain ⟨z1, z2, z3⟩ := hz0 x x0 x1
          rw [z1, z2, z3]
          exact ⟨fun q => absurd rfl q, fun q => absurd rfl q, fun t _ q => absurd q (hb_0 t)⟩
      · refine x_aload_n d_D_grow_8 0 rfl rfl ?_
        refine x_getc 1 6 12 12 fl_D_35 tk_17_6 (hD.1.at 0 rfl) rfl rfl d_D_grow_9 ?_
        refine x_iload_n d_D_grow_12 1 rfl rfl ?_
        refine x_iconst d_D_grow_13 ?_
        refine x_zast 12 (hD.1.at 5 rfl) rfl ⟨by decide, rfl, by decide⟩ rfl (by omega) (narz (Or.inl rfl)) d_D_grow_14 (fun Q1 hQ1 => ?_)
        refine x_aload_n d_D_grow_15 0 rfl rfl ?_
        refine x_getc 1 7 13 13 fl_D_39 tk_17_7 (hD.1.at 0 rfl) rfl rfl d_D_grow_16 ?_
        refine x_iload_n d_D_grow_19 1 rfl rfl ?_
        refine x_iconst d_D_grow_20 ?_
        refine x_zast 13 (hD.1.at 6 rfl) rfl ⟨by decide, rfl, by decide⟩ rfl (by omega) (narz (Or.inl rfl)) d_D_grow_21 (fun Q2 hQ2 => ?_)
        refine x_aload_n d_D_grow_22 0 rfl rfl ?_
        refine x_getc 1 8 14 14 fl_D_42 tk_17_8 (hD.1.at 0 rfl) rfl rfl d_D_grow_23 ?_
        refine x_iload_n d_D_grow_26 1 rfl rfl ?_
        refine x_iconst d_D_grow_27 ?_
        refine x_iast 14 (hD.1.at 7 rfl) rfl ⟨by decide, rfl, by decide⟩ rfl (by omega) d_D_grow_28 (fun Q3 hQ3 => ?_)
        refine x_iinc d_D_grow_29 rfl [some (.ref ((σ 1).1)), some (vi (k + 1)), none, none, none, none] rfl rfl (lr rfl) ?_
        refine x_goto (tgt := 2) d_D_grow_32 rfl ?_
        exact ih _ (by omega) (k + 1) Q3 rfl (by omega) (fun a a1 a2 a3 => by rw [← hK a a1 a2 a3]; funext b; rw [xr_o hQ3 a3, xr_o hQ2 a2, xr_o hQ1 a1]) (fun x x0 x1 => by
          by_cases c : x = k
          · rw [xr_e hQ3 c, xr_o hQ3 (by decide), xr_o hQ3 (by decide), xr_e hQ2 c, xr_o hQ2 (by decide), xr_e hQ1 c]; exact ⟨rfl, rfl, rfl⟩
          · rw [xr_d hQ3 c, xr_o hQ3 (by decide), xr_o hQ3 (by decide), xr_d hQ2 c, xr_o hQ2 (by decide), xr_o hQ2 (by decide), xr_d hQ1 c, xr_o hQ1 (by decide), xr_o hQ1 (by decide)]; exact hZ x x0 (by omega))
  refine x_iconst d_D_grow_0 ?_
  refine x_istore_n d_D_grow_1 1 rfl [some (.ref ((σ 1).1)), some (vi 0), none, none, none, none] rfl rfl (lr rfl) ?_
  exact hl _ 0 R rfl (by omega) (fun a _ _ _ => rfl) (fun x x0 x1 => by omega)
