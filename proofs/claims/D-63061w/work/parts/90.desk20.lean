/-! the desk: rule -/
theorem dy_rng {s : Int} (h : 0 ≤ s ∧ s ≤ 11) : 0 ≤ dy s ∧ dy s ≤ 12 := by
  unfold dy
  by_cases c : s < 6
  · rw [if_pos c]; omega
  · rw [if_neg c]; omega
theorem al_same {σ : xS} {R : xR} {g : xGr} {k r l len : Int} {s : Int → Int} {ρk : Int} (h : rlI σ R ρk (g.2.1 k) (g.2.2.1 k).toNat (g.2.2.2 k)) (h0 : 0 ≤ g.2.2.1 k) (hr : rlI σ R r l len.toNat s) (hl : 0 ≤ len) : (R ρk 0 = R r 0 ∧ (((g.2.2.1 k).toNat : Nat) : Int) = ((len.toNat : Nat) : Int) ∧ ∀ c, 0 ≤ c → c < (((g.2.2.1 k).toNat : Nat) : Int) → R (ρk + 1) c = R (r + 1) c) ↔ rSame g k l len s := by
  obtain ⟨-, -, -, a4, a5, a6⟩ := h
  obtain ⟨-, -, -, b4, b5, b6⟩ := hr
  constructor
  · rintro ⟨q1, q2, q3⟩
    refine ⟨by omega, by omega, fun c c0 c1 => dy_inj ?_⟩
    rw [← (a6 c c0 (by omega)).1, ← (b6 c c0 (by omega)).1]
    exact q3 c c0 (by omega)
  · rintro ⟨q1, q2, q3⟩
    refine ⟨by omega, by omega, fun c c0 c1 => ?_⟩
    rw [(a6 c c0 (by omega)).1, (b6 c c0 (by omega)).1, q3 c c0 (by omega)]
set_option maxHeartbeats 4000000 in
set_option maxRecDepth 100000 in
theorem v_D_rule4 {X : xCtx} {Z : xZ} {σ : xS} {R : xR} (hD : dSh σ) (f : Int) (g : xGr) (ρ : Int → Int) (e2 : Int) (cap2 : Nat) (hf : fr f σ) (hRu : dRu σ R g ρ e2 cap2) (hc2 : cap2 = 0 ∨ 10 ≤ cap2) (r l len : Int) (s : Int → Int) (hr : rlI σ R r l len.toNat s) (hr1 : 1000 ≤ r) (hl5 : l ≤ 5) (hlen : 0 ≤ len ∧ len ≤ 4) (qs qa : Nat)
    (fin1 : g.1 < 10 → ∀ (σ' : xS) (R' : xR) (e2' : Int) (cap2' : Nat), dRu σ' R' (gAdd g l len s) (up1 ρ g.1 r) e2' cap2' → (cap2' = 0 ∨ 10 ≤ cap2') → ((e2' = e2 ∧ σ' = σ) ∨ (e2' = f ∧ ∃ q n, σ' = xsu σ f (q, 38, n))) → (∀ a, a ≠ 1 → a ≠ 2 → a ≠ e2' → a ≠ f → R' a = R a) → (∀ j, j ≠ 12 → j ≠ 21 → j ≠ 22 → R' 1 j = R 1 j) → R' 1 12 = 0 → R' 1 21 = 0 → R' 1 22 = 0 → Z (.returned (some (vi g.1))) σ' R')
    (fin9 : g.1 = 10 → ∀ q : Nat, Z (.threw q) (xsu σ f (q, 9, 0)) (xru R f (fun _ => 0))) : V X m_D_rule (8, 21, 186, Z) σ R 19 116 202 [some (.ref (σ 1).1), some (.ref qs), some (.ref qa), some (.ref (σ r).1), some (vi g.1)] [] := by
  have hd1 := hD.1.at 0 (k := 1) (t := 17) (n := 0) rfl
  have hA2 := hRu.2.1
  have hw := hRu.1
  have hg10 := hw.2.1
  have hg0 := hw.1
  have hf9 := hf.1
  have he9 := hRu.2.2.1
  -- behind the test
  have h219 : ∀ z : Int, (z = 1 ∧ g.1 < 10) ∨ (z = 0 ∧ g.1 = 10) → V X m_D_rule (8, 21, 186, Z) σ R 19 116 219 [some (.ref (σ 1).1), some (.ref qs), some (.ref qa), some (.ref (σ r).1), some (vi g.1)] [vi z] := by
    intro z hz
    refine x_callST (As := [vi z]) (c_D_state z f (by omega) (by omega) (hf.2 f (Int.le_refl _))) cs_D_139 rfl rfl (lr rfl) d_D_rule_219 (lr rfl) ⟨lr rfl, lr rfl⟩ (fun w σ1 R1 hq => ?_) (fun w σ1 R1 hq => ?_)
    · rcases hq with ⟨q1, q2, q3, q4⟩ | ⟨-, q, q2, -⟩
      · cases q2
        rw [q3, q4]
        have hlt : g.1 < 10 := by omega
        refine x_aload_n d_D_rule_222 0 rfl rfl ?_
        refine x_getc 1 0 2 2 fl_D_10 tk_17_0 hd1 rfl rfl d_D_rule_223 ?_
        refine x_aload_n d_D_rule_226 3 rfl rfl ?_
        refine x_cv 2 (As := [.ref (σ r).1]) (c_AL_add 2 e2 f r g.1 cap2 hA2 (by omega) (fun h => by omega) (by omega) (hf.2 f (Int.le_refl _)) (fun h i i0 i1 => ?_) (obR hr.1)) cs_D_142 hA2.rc rfl rfl (lr rfl) d_D_rule_227 (lr rfl) ⟨lr rfl, lr rfl⟩ (fun w σ2 R2 hZ2 => ?_)
        · obtain ⟨r1, r2, r3⟩ := hRu.2.2.2 i i0 (by omega)
          exact Or.inr ⟨ρ i, 18, 0, r2.1, r1, by decide⟩
        · obtain ⟨y1, e', cap', y2, y3, y4, y5, y6⟩ := hZ2
          cases y1
          have hx2 : sx σ σ2 := by
            rcases y3 with ⟨-, -, -, h⟩ | ⟨-, -, -, q3, h⟩
            · rw [h]; exact sx.rf
            · rw [h]; exact sx.new (by omega) (hf.2 f (Int.le_refl _))
          have e1 : σ2 1 = σ 1 := hx2.at hd1 (by decide)
          have hD2 := hD.ext hx2
          have hd2 := hD2.1.at 0 (k := 1) (t := 17) (n := 0) rfl
          have hee : e' = e2 ∨ e' = f := y3.imp (fun h => h.1) (fun h => h.1)
          have he1 : 1000 ≤ e' := by omega
          rw [← e1]
          refine x_pop d_D_rule_230 rfl ?_
          refine x_aload_n d_D_rule_231 0 rfl rfl ?_
          refine x_iconst d_D_rule_232 ?_
          refine x_putn 1 12 12 fp_D_146 tk_17_12 hd2 rfl rfl ⟨rfl, rfl⟩ d_D_rule_233 (fun R3 hR3 => ?_)
          refine x_aload_n d_D_rule_236 0 rfl rfl ?_
          refine x_cvv 1 (As := []) (c_D_forget hD2) cs_D_150 (thisD hD2) rfl rfl (lr rfl) d_D_rule_237 (lr rfl) ⟨lr rfl, lr rfl⟩ (fun R4 hR4 => ?_)
          have k4 : ∀ a, a ≠ 1 → R4 a = R2 a := fun a h => by funext i; rw [hR4, xr_o rfl h, xr_o rfl h, xr_o hR3 h]
          have hA4 : alI σ2 R4 2 e' (g.1 + 1) cap' := y2.keep (k4 2 (by decide))
          refine x_aload_n d_D_rule_240 0 rfl rfl ?_
          refine x_getc 1 0 2 2 fl_D_10 tk_17_0 hd2 rfl rfl d_D_rule_241 ?_
          refine x_cvi 2 (As := []) (c_AL_size 2 e' (g.1 + 1) cap' hA4) cs_D_128 hA4.rc rfl rfl (lr rfl) d_D_rule_244 (lr rfl) ⟨lr rfl, lr rfl⟩ ?_
          refine x_iconst d_D_rule_247 ?_
          refine x_isub d_D_rule_248 ?_
          refine V.teq g.1 (by omega) ?_
          have hrr : ∀ a, (σ a).2.1 = 18 ∨ (σ a).2.1 = 32 → 1000 ≤ a → R4 a = R a := fun a h1 h2 => by
            have h3 := hf.lt (a := a) (by omega)
            rw [k4 a (by omega)]
            refine y6 a (by omega) (fun q => ?_) (by omega)
            rcases y3 with ⟨h, -, h0, -⟩ | ⟨h, -⟩
            · rw [q, h] at h1
              rcases hA2.2.2.2.2 with w | w
              · omega
              · rw [w.2.2.1] at h1
                rcases h1 with h1 | h1 <;> cases h1
            · omega
          refine x_iret d_D_rule_249 rfl (lr rfl) (lr rfl) (fin1 hlt σ2 R4 e' cap' ⟨?_, hA4, he1, fun i i0 i1 => ?_⟩ ?_ ?_ (fun a b1 b2 b3 b4 => by rw [k4 a b1]; exact y6 a b2 b3 b4) (fun j j1 j2 j3 => by rw [hR4, xr_d rfl j3, xr_d rfl j2, xr_d hR3 j1, y6 1 (by decide) (by omega) (by omega)]) (by rw [hR4, xr_d rfl (by decide), xr_d rfl (by decide), xr_s hR3]) (by rw [hR4, xr_d rfl (by decide), xr_s rfl]) (by rw [hR4, xr_s rfl]))
          · refine ⟨by show 0 ≤ g.1 + 1; omega, by show g.1 + 1 ≤ 10; omega, fun i i0 i1 => ?_⟩
            have i1' : i < g.1 + 1 := i1
            show (0 ≤ up1 g.2.1 g.1 l i ∧ up1 g.2.1 g.1 l i ≤ 5) ∧ (0 ≤ up1 g.2.2.1 g.1 len i ∧ up1 g.2.2.1 g.1 len i ≤ 4) ∧ ∀ k, 0 ≤ k → k < up1 g.2.2.1 g.1 len i → 0 ≤ (if i = g.1 then s k else g.2.2.2 i k) ∧ (if i = g.1 then s k else g.2.2.2 i k) ≤ 11
            by_cases c : i = g.1
            · rw [c, up1_s, up1_s]
              refine ⟨⟨hr.2.2.2.2.1.1, hl5⟩, hlen, fun k k0 k1 => ?_⟩
              rw [if_pos rfl]
              have := (hr.2.2.2.2.2 k k0 (by omega)).2
              exact this
            · rw [up1_n _ _ c, up1_n _ _ c]
              have := hw.2.2 i i0 (by omega)
              refine ⟨this.1, this.2.1, fun k k0 k1 => ?_⟩
              rw [if_neg c]
              exact this.2.2 k k0 k1
          · have i1' : i < g.1 + 1 := i1
            show R4 e' i = ((σ2 (up1 ρ g.1 r i)).1 : Int) + 1 ∧ rlI σ2 R4 (up1 ρ g.1 r i) (up1 g.2.1 g.1 l i) (up1 g.2.2.1 g.1 len i).toNat (fun k => if i = g.1 then s k else g.2.2.2 i k) ∧ 1000 ≤ up1 ρ g.1 r i
            have e4 : R4 e' = R2 e' := k4 e' (by omega)
            by_cases c : i = g.1
            · rw [c, up1_s, up1_s, up1_s, e4, y5, hx2.at hr.1 (by decide)]
              exact ⟨rfl, ((hr.ext hx2 (hrr r (Or.inl (by rw [hr.1])) hr1) (hrr (r + 1) (Or.inr (by rw [hr.2.1])) (by omega))).cg rfl rfl (fun k _ _ => if_pos rfl)), hr1⟩
            · obtain ⟨r1, r2, r3⟩ := hRu.2.2.2 i i0 (by omega)
              rw [up1_n _ _ c, up1_n _ _ c, up1_n _ _ c, e4, y4 i i0 (by omega), hx2.at r2.1 (by decide)]
              exact ⟨r1, ((r2.ext hx2 (hrr _ (Or.inl (by rw [r2.1])) r3) (hrr _ (Or.inr (by rw [r2.2.1])) (by omega))).cg rfl rfl (fun k _ _ => if_neg c)), r3⟩
          · rcases y3 with ⟨-, h, -⟩ | ⟨-, h, -⟩
            · rw [h]; exact hc2
            · refine Or.inr ?_
              rw [h]
              unfold nwc
              rcases hc2 with h2 | h2
              · rw [if_pos h2]; exact Nat.le_refl _
              · rw [if_neg (by omega)]; omega
          · exact y3.imp (fun h => ⟨h.1, h.2.2.2⟩) (fun h => ⟨h.1, h.2.2.2.imp (fun q hq => ⟨_, hq⟩)⟩)
      · cases q2
    · rcases hq with ⟨-, q2, -⟩ | ⟨q1, q, q2, q3, q4⟩
      · cases q2
      · cases q2
        rw [q3, q4]
        exact Vt.leave (by decide +kernel) (lr rfl) (lr rfl) (fin9 (by omega) w)
  refine x_aload_n d_D_rule_202 0 rfl rfl ?_
  refine x_getc 1 0 2 2 fl_D_10 tk_17_0 hd1 rfl rfl d_D_rule_203 ?_
  refine x_cvi 2 (As := []) (c_AL_size 2 e2 g.1 cap2 hA2) cs_D_128 hA2.rc rfl rfl (lr rfl) d_D_rule_206 (lr rfl) ⟨lr rfl, lr rfl⟩ ?_
  refine x_bipush d_D_rule_209 rfl ?_
  refine x_icmp_ge (tgt := 218) d_D_rule_211 rfl (by omega) (by omega) (fun c => ?_) (fun c => ?_)
  · refine x_iconst d_D_rule_218 ?_
    exact h219 0 (Or.inr ⟨rfl, by omega⟩)
  · refine x_iconst d_D_rule_214 ?_
    refine x_goto (tgt := 219) d_D_rule_215 rfl ?_
    exact h219 1 (Or.inl ⟨rfl, by omega⟩)
set_option maxHeartbeats 4000000 in
set_option maxRecDepth 100000 in
theorem v_D_rule3 {X : xCtx} {Z : xZ} {σ : xS} {R : xR} (hD : dSh σ) (f : Int) (g : xGr) (ρ : Int → Int) (e2 : Int) (cap2 : Nat) (hf : fr f σ) (hRu : dRu σ R g ρ e2 cap2) (r l len : Int) (s : Int → Int) (hr : rlI σ R r l len.toNat s) (hlen : 0 ≤ len ∧ len ≤ 4) (qs qa : Nat)
    (nxt : ¬ rDup g l len s → V X m_D_rule (8, 21, 186, Z) σ R 19 116 202 [some (.ref (σ 1).1), some (.ref qs), some (.ref qa), some (.ref (σ r).1), some (vi g.1)] [])
    (fin8 : rDup g l len s → ∀ q : Nat, Z (.threw q) (xsu σ f (q, 8, 0)) (xru R f (fun _ => 0))) : ∀ (mw k : Nat), g.1.toNat - k = mw → (k : Int) ≤ g.1 → (∀ i, 0 ≤ i → i < (k : Int) → ¬ rSame g i l len s) → V X m_D_rule (8, 21, 186, Z) σ R (9 + k) (56 + 6 * k) 157 [some (.ref (σ 1).1), some (.ref qs), some (.ref qa), some (.ref (σ r).1), some (vi k)] [] := by
  intro mw
  induction mw using Nat.strongRecOn with
  | _ mw ih =>
    intro k hm hk hno
    have hd1 := hD.1.at 0 (k := 1) (t := 17) (n := 0) rfl
    have hA2 := hRu.2.1
    have hg10 := hRu.1.2.1
    have hf9 := hf.1
    have hB : 9 + k + 0 ≤ 21 ∧ 56 + 6 * k + 0 ≤ 186 := by omega
    refine x_iload d_D_rule_157 rfl ?_
    refine x_aload_n d_D_rule_159 0 rfl rfl ?_
    refine x_getc 1 0 2 2 fl_D_10 tk_17_0 hd1 rfl rfl d_D_rule_160 ?_
    refine x_cvi 2 (As := []) (c_AL_size 2 e2 g.1 cap2 hA2) cs_D_128 hA2.rc rfl rfl (lr rfl) d_D_rule_163 (lr rfl) hB ?_
    refine x_icmp_ge (tgt := 202) d_D_rule_166 rfl (by omega) (by omega) (fun c => ?_) (fun c => ?_)
    · have ek : (k : Int) = g.1 := by omega
      rw [ek] at hno ⊢
      exact V.widen 19 116 (by omega) (by omega) (nxt (fun ⟨i, i0, i1, h⟩ => hno i i0 i1 h))
    · obtain ⟨r1, r2, r3⟩ := hRu.2.2.2 k (by omega) (by omega)
      have hwk := hRu.1.2.2 k (by omega) (by omega)
      have hsm := al_same r2 hwk.2.1.1 hr hlen.1
      have hz9 := zc_or (rSame g k l len s)
      have hln : (g.2.2.1 k).toNat ≤ 4 := r2.2.2.1
      have hln2 : len.toNat ≤ 4 := hr.2.2.1
      -- behind the test
      have h193 : ∀ z : Int, (z = 1 ∧ ¬ rSame g k l len s) ∨ (z = 0 ∧ rSame g k l len s) → V X m_D_rule (8, 21, 186, Z) σ R (9 + k) (56 + 6 * k) 193 [some (.ref (σ 1).1), some (.ref qs), some (.ref qa), some (.ref (σ r).1), some (vi k)] [vi z] := by
        intro z hz
        refine x_callST (As := [vi z]) (c_D_need z f (hz.elim (fun q => Or.inr q.1) (fun q => Or.inl q.1)) (by omega) (hf.2 f (Int.le_refl _))) cs_D_116 rfl rfl (lr rfl) d_D_rule_193 (lr rfl) ⟨by show 9 + k + 1 ≤ 21; omega, by show 56 + 6 * k + 6 ≤ 186; omega⟩ (fun w σ1 R1 hq => ?_) (fun w σ1 R1 hq => ?_)
        · rcases hq with ⟨q1, q2, q3, q4⟩ | ⟨-, q, q2, -⟩
          · cases q2
            rw [q3, q4]
            refine x_iinc d_D_rule_196 rfl [some (.ref (σ 1).1), some (.ref qs), some (.ref qa), some (.ref (σ r).1), some (vi ((k + 1 : Nat) : Int))] rfl rfl (lr rfl) ?_
            refine x_goto (tgt := 157) d_D_rule_199 rfl ?_
            refine V.widen (9 + (k + 1)) (56 + 6 * (k + 1)) (by omega) (by omega) (ih _ (by omega) (k + 1) rfl (by omega) (fun i i0 i1 => ?_))
            by_cases e : i = k
            · rw [e]; exact hz.elim (fun q => q.2) (fun q => by have := q.1; omega)
            · exact hno i i0 (by omega)
          · cases q2
        · rcases hq with ⟨-, q2, -⟩ | ⟨q1, q, q2, q3, q4⟩
          · cases q2
          · cases q2
            rw [q3, q4]
            exact Vt.leave (by decide +kernel) (by show 9 + k + 1 ≤ 21; omega) (by show 56 + 6 * k + 6 ≤ 186; omega) (fin8 ⟨k, by omega, by omega, hz.elim (fun q => absurd q.1 q1) (fun q => q.2)⟩ w)
      refine x_aload_n d_D_rule_169 0 rfl rfl ?_
      refine x_getc 1 0 2 2 fl_D_10 tk_17_0 hd1 rfl rfl d_D_rule_170 ?_
      refine x_iload d_D_rule_173 rfl ?_
      refine x_cva 2 (As := [vi k]) (c_AL_get 2 e2 g.1 cap2 hA2 k (σ (ρ k)).1 (by omega) r1) cs_D_131 hA2.rc rfl rfl (lr rfl) d_D_rule_175 (lr rfl) hB ?_
      refine x_castR (ρ k) r2.1 rfl d_D_rule_178 ?_
      refine x_aload_n d_D_rule_181 3 rfl rfl ?_
      refine x_cvi (ρ k) (As := [.ref (σ r).1]) (c_R_alike (ρ k) r (g.2.2.1 k).toNat len.toNat (by omega) r2.1 r2.2.1 hr.1 hr.2.1 (fun a b h => ?_)) cs_D_135 (thisR r2.1) rfl rfl (lr rfl) d_D_rule_182 (lr rfl) hB ?_
      · rcases h with ⟨rfl, rfl⟩ | ⟨rfl, rfl⟩ | ⟨rfl, b0, b1⟩ | ⟨rfl, b0, b1⟩
        · have := r2.2.2.2.1; have := r2.2.2.2.2.1; omega
        · have := hr.2.2.2.1; have := hr.2.2.2.2.1; omega
        · have q := r2.2.2.2.2.2 b b0 b1
          have := dy_rng q.2
          rw [q.1]; omega
        · have q := hr.2.2.2.2.2 b b0 b1
          have := dy_rng q.2
          rw [q.1]; omega
      · rw [zc_iff hsm]
        refine x_if_ne (tgt := 192) d_D_rule_185 rfl (by omega) (fun c2 => ?_) (fun c2 => ?_)
        · refine x_iconst d_D_rule_192 ?_
          exact h193 0 (Or.inr ⟨rfl, zc_ne.mp c2⟩)
        · refine x_iconst d_D_rule_188 ?_
          refine x_goto (tgt := 193) d_D_rule_189 rfl ?_
          exact h193 1 (Or.inl ⟨rfl, zc_eq0.mp c2⟩)
