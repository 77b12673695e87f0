/-! the model: rule (walk printed by gen/model13.py) -/
def rCls (c : Int) : Prop := (97 ≤ c ∧ c ≤ 102) ∨ (65 ≤ c ∧ c ≤ 70)
def rBas (n : Int) (b : Int → Int) : Prop := (2 ≤ n ∧ n ≤ 6) ∧ (65 ≤ b 0 ∧ b 0 ≤ 70) ∧ b 1 = 61
def rGood (n : Int) (b : Int → Int) : Prop := rBas n b ∧ ∀ i, 2 ≤ i → i < n → rCls (b i)
def rSy (c : Int) : Int := if 97 ≤ c ∧ c ≤ 102 then c - 97 else 6 + c - 65
def rSame (g : xGr) (r l len : Int) (s : Int → Int) : Prop := g.2.1 r = l ∧ g.2.2.1 r = len ∧ ∀ k, 0 ≤ k → k < len → g.2.2.2 r k = s k
def rDup (g : xGr) (l len : Int) (s : Int → Int) : Prop := ∃ r, 0 ≤ r ∧ r < g.1 ∧ rSame g r l len s
def gAdd (g : xGr) (l len : Int) (s : Int → Int) : xGr := (g.1 + 1, up1 g.2.1 g.1 l, up1 g.2.2.1 g.1 len, fun r k => if r = g.1 then s k else g.2.2.2 r k)
def rL (R : xR) : Int := R 32 0 - 65
def rN (R : xR) : Int := R 30 2 - 2
def rS (R : xR) : Int → Int := fun k => rSy (R 32 (k + 2))
/-- what rule leaves -/
def mRu (R : xR) (z : Int) (R1 : xR) : Prop := R1 30 2 = 0 ∧
  (((¬ rGood (R 30 2) (R 32) ∨ rDup (gM R) (rL R) (rN R) (rS R)) ∧ R1 30 0 = 1 ∧ ∀ p q, p ≠ 49 → ¬ (p = 30 ∧ (q = 0 ∨ q = 2)) → R1 p q = R p q) ∨
   (rGood (R 30 2) (R 32) ∧ ¬ rDup (gM R) (rL R) (rN R) (rS R) ∧ R 30 3 = 10 ∧ R1 30 0 = 2 ∧ ∀ p q, p ≠ 49 → ¬ (p = 30 ∧ (q = 0 ∨ q = 2)) → R1 p q = R p q) ∨
   (rGood (R 30 2) (R 32) ∧ ¬ rDup (gM R) (rL R) (rN R) (rS R) ∧ R 30 3 < 10 ∧ R1 30 0 = 0 ∧ z = R 30 3 ∧ R1 30 12 = 0 ∧ R1 30 22 = 0 ∧ R1 30 23 = 0 ∧ mG0 R1 ∧ gE (gAdd (gM R) (rL R) (rN R) (rS R)) (gM R1) ∧ ∀ p q, p ≠ 35 → p ≠ 36 → p ≠ 37 → p ≠ 49 → ¬ (p = 30 ∧ (q = 0 ∨ q = 2 ∨ q = 3 ∨ q = 12 ∨ q = 22 ∨ q = 23)) → R1 p q = R p q))
theorem rSy_rng {c : Int} (h : rCls c) : 0 ≤ rSy c ∧ rSy c ≤ 11 := by
  unfold rSy
  by_cases c1 : 97 ≤ c ∧ c ≤ 102
  · rw [if_pos c1]; omega
  · rw [if_neg c1]
    unfold rCls at h
    omega
/-- a rule is put in -/
theorem mRu.put {R Rn : xR} (hg : mG0 R) (hgd : rGood (R 30 2) (R 32)) (hlt : R 30 3 < 10) (h3 : Rn 30 3 = R 30 3 + 1) (h35 : ∀ q, Rn 35 q = if q = R 30 3 then rL R else R 35 q) (h36 : ∀ q, Rn 36 q = if q = R 30 3 then rN R else R 36 q) (h37 : ∀ q, (q < 4 * R 30 3 ∨ 4 * R 30 3 + 4 ≤ q) → Rn 37 q = R 37 q) (h37n : ∀ k, 0 ≤ k → k < rN R → Rn 37 (4 * R 30 3 + k) = rS R k) : mG0 Rn ∧ gE (gAdd (gM R) (rL R) (rN R) (rS R)) (gM Rn) := by
  have hn := hgd.1.1
  have hL : 0 ≤ rL R ∧ rL R ≤ 5 := by have := hgd.1.2.1; unfold rL; omega
  have hN : 0 ≤ rN R ∧ rN R ≤ 4 := by unfold rN; omega
  have hS : ∀ k, 0 ≤ k → k < rN R → 0 ≤ rS R k ∧ rS R k ≤ 11 := fun k a b => rSy_rng (hgd.2 (k + 2) (by omega) (by unfold rN at b; omega))
  obtain ⟨g1, g2, g3⟩ := hg
  refine ⟨⟨by omega, fun r a b => ?_, fun r k a b c d => ?_⟩, h3.symm, fun r a b => ?_⟩
  · rw [h35, h36]
    by_cases e : r = R 30 3
    · rw [if_pos e, if_pos e]; exact ⟨hL, hN⟩
    · rw [if_neg e, if_neg e]; exact g2 r a (by omega)
  · rw [h36] at d
    by_cases e : r = R 30 3
    · rw [if_pos e] at d
      rw [e, h37n k c d]
      exact hS k c d
    · rw [if_neg e] at d
      have := (g2 r a (by omega)).2
      rw [h37 _ (by omega)]
      exact g3 r k a (by omega) c d
  · have b' : r < R 30 3 + 1 := b
    show up1 (R 35) (R 30 3) (rL R) r = Rn 35 r ∧ up1 (R 36) (R 30 3) (rN R) r = Rn 36 r ∧ ∀ k, 0 ≤ k → k < up1 (R 36) (R 30 3) (rN R) r → (if r = R 30 3 then rS R k else R 37 (4 * r + k)) = Rn 37 (4 * r + k)
    rw [h35, h36]
    by_cases e : r = R 30 3
    · rw [if_pos e, if_pos e, e, up1_s, up1_s]
      exact ⟨rfl, rfl, fun k c d => by rw [if_pos rfl, h37n k c d]⟩
    · rw [if_neg e, if_neg e, up1_n _ _ e, up1_n _ _ e]
      have := (g2 r a (by omega)).2
      exact ⟨rfl, rfl, fun k c d => by rw [if_neg e, h37 _ (by omega)]⟩
set_option maxHeartbeats 4000000 in
set_option maxRecDepth 100000 in
theorem c_P_rule {σ : xS} {R : xR} (hM : xsh σ mshape) (hg : mG0 R) (hw : 0 ≤ R 30 2 ∧ R 30 2 ≤ 10) (hch : ∀ i, 0 ≤ i → i < R 30 2 → 0 ≤ R 32 i ∧ R 32 i < 65536) : Ct m_P_rule 2 0 0 [.ref (σ 30).1] σ R (Zm σ (mRu R)) := by
  refine Ct.of [some (.ref ((σ 30).1)), none, none, none, none, none] rfl (by decide +kernel) (lr rfl) (fun X => ?_)
  have hthis := thisM hM
  have hg1 := hg.1
  have hl : ∀ (m : Nat) (k : Int) (ok : Int) (R1 : xR), (16 - k).toNat = m → (∀ p q, ¬ (p = 30 ∧ (q = 0 ∨ q = 2)) → R1 p q = R p q) → (R1 30 2 = 0) → (R1 30 0 = 0) → (2 ≤ k ∧ (k ≤ R 30 2 ∨ k = 2)) → (ok = zc (rBas (R 30 2) (R 32) ∧ ∀ i, 2 ≤ i → i < k → rCls (R 32 i))) → V X m_P_rule (2, 0, 0, Zm σ (mRu R)) σ R1 0 0 57 [some (.ref ((σ 30).1)), some (vi (R 30 2)), some (vi ok), some (vi k), none, none] [] := by
    intro m
    induction m using Nat.strongRecOn with
    | _ m ih =>
      intro k ok R1 hm hkp h02 h00 hk1 hok
      refine x_iload_n d_P_rule_57 3 rfl rfl ?_
      refine x_iload_n d_P_rule_58 1 rfl rfl ?_
      refine x_icmp_ge (tgt := 102) d_P_rule_59 rfl (by omega) (by omega) (fun c59 => ?_) (fun c59 => ?_)
      · have hzo := zc_or (rBas (R 30 2) (R 32) ∧ ∀ i, 2 ≤ i → i < k → rCls (R 32 i))
        refine x_iload_n d_P_rule_102 2 rfl rfl ?_
        refine x_if_ne (tgt := 112) d_P_rule_103 rfl (by omega) (fun c103 => ?_) (fun c103 => ?_)
        · refine x_iconst d_P_rule_112 ?_
          refine x_istore_n d_P_rule_113 3 rfl [some (.ref ((σ 30).1)), some (vi (R 30 2)), some (vi ok), some (vi 2), none, none] rfl rfl (lr rfl) ?_
          have hgd : rGood (R 30 2) (R 32) := by
            have q := zc_eq1.mp (hok.symm.trans (by omega : ok = 1))
            exact ⟨q.1, fun i a b => q.2 i a (by omega)⟩
          have hb9 := hgd.1.1
          have hok1 : ok = 1 := by omega
          subst hok1
          have hl3 : ∀ (m : Nat) (k : Int) (R2 : xR), (16 - k).toNat = m → (2 ≤ k ∧ k ≤ R 30 2) → (∀ p q, p ≠ 49 → ¬ (p = 30 ∧ (q = 0 ∨ q = 2)) → R2 p q = R p q) → (R2 30 2 = 0) → (R2 30 0 = 0) → (∀ j, 0 ≤ j → j < k - 2 → R2 49 j = rS R j) → V X m_P_rule (2, 0, 0, Zm σ (mRu R)) σ R2 0 0 114 [some (.ref ((σ 30).1)), some (vi (R 30 2)), some (vi 1), some (vi k), none, none] [] := by
            intro m
            induction m using Nat.strongRecOn with
            | _ m ih3 =>
              intro k R2 hm3 hk1 hk2 h02 h00 hfr
              have hb9 := hgd.1.1
              refine x_iload_n d_P_rule_114 3 rfl rfl ?_
              refine x_iload_n d_P_rule_115 1 rfl rfl ?_
              refine x_icmp_ge (tgt := 169) d_P_rule_116 rfl (by omega) (by omega) (fun c116 => ?_) (fun c116 => ?_)
              · refine x_iconst d_P_rule_169 ?_
                refine x_istore_n d_P_rule_170 3 rfl [some (.ref ((σ 30).1)), some (vi (R 30 2)), some (vi 1), some (vi 0), none, none] rfl rfl (lr rfl) ?_
                have hk3 := hk2
                have hlr : ∀ (m : Nat) (r : Int), (16 - r).toNat = m → (0 ≤ r ∧ r ≤ R 30 3) → (∀ r2, 0 ≤ r2 → r2 < r → ¬ rSame (gM R) r2 (rL R) (rN R) (rS R)) → V X m_P_rule (2, 0, 0, Zm σ (mRu R)) σ R2 0 0 171 [some (.ref ((σ 30).1)), some (vi (R 30 2)), some (vi 1), some (vi r), none, none] [] := by
                  intro m
                  induction m using Nat.strongRecOn with
                  | _ m ihr =>
                    intro r hmr hr1 hnr
                    refine x_iload_n d_P_rule_171 3 rfl rfl ?_
                    refine x_aload_n d_P_rule_172 0 rfl rfl ?_
                    refine x_geti 30 3 3 (R 30 3) fl_P_90 tk_23_3 (hM.at 0 rfl) rfl rfl (hk3 30 3 (by decide) (by decide)) d_P_rule_173 ?_
                    refine x_icmp_ge (tgt := 283) d_P_rule_176 rfl (by omega) (by omega) (fun c176 => ?_) (fun c176 => ?_)
                    · refine x_aload_n d_P_rule_283 0 rfl rfl ?_
                      refine x_geti 30 3 3 (R 30 3) fl_P_90 tk_23_3 (hM.at 0 rfl) rfl rfl (hk3 30 3 (by decide) (by decide)) d_P_rule_284 ?_
                      refine x_bipush d_P_rule_287 rfl ?_
                      refine x_icmp_ne (tgt := 298) d_P_rule_289 rfl (by omega) (by omega) (fun c289 => ?_) (fun c289 => ?_)
                      · have hb9 := hgd.1.2.1
                        refine x_aload_n d_P_rule_298 0 rfl rfl ?_
                        refine x_getc 30 4 35 35 fl_P_13 tk_23_4 (hM.at 0 rfl) rfl rfl d_P_rule_299 ?_
                        refine x_aload_n d_P_rule_302 0 rfl rfl ?_
                        refine x_geti 30 3 3 (R 30 3) fl_P_90 tk_23_3 (hM.at 0 rfl) rfl rfl (hk3 30 3 (by decide) (by decide)) d_P_rule_303 ?_
                        refine x_aload_n d_P_rule_306 0 rfl rfl ?_
                        refine x_getc 30 1 32 32 fl_P_7 tk_23_1 (hM.at 0 rfl) rfl rfl d_P_rule_307 ?_
                        refine x_iconst d_P_rule_310 ?_
                        refine x_cald 32 (R 32 0) (hM.at 1 rfl) rfl ⟨by decide, rfl, by decide⟩ rfl (by omega) (hk3 32 0 (by decide) (by omega)) d_P_rule_311 ?_
                        refine x_bipush d_P_rule_312 rfl ?_
                        refine x_isub d_P_rule_314 ?_
                        refine x_iast 35 (hM.at 2 rfl) rfl ⟨by decide, rfl, by decide⟩ rfl (by omega) d_P_rule_315 (fun Q1 hQ1 => ?_)
                        refine x_aload_n d_P_rule_316 0 rfl rfl ?_
                        refine x_getc 30 5 36 36 fl_P_17 tk_23_5 (hM.at 0 rfl) rfl rfl d_P_rule_317 ?_
                        refine x_aload_n d_P_rule_320 0 rfl rfl ?_
                        refine x_geti 30 3 3 (R 30 3) fl_P_90 tk_23_3 (hM.at 0 rfl) rfl rfl ((xr_o hQ1 (by decide)).trans (hk3 30 3 (by decide) (by decide))) d_P_rule_321 ?_
                        refine x_iload_n d_P_rule_324 1 rfl rfl ?_
                        refine x_iconst d_P_rule_325 ?_
                        refine x_isub d_P_rule_326 ?_
                        refine x_iast 36 (hM.at 3 rfl) rfl ⟨by decide, rfl, by decide⟩ rfl (by omega) d_P_rule_327 (fun Q2 hQ2 => ?_)
                        refine x_iconst d_P_rule_328 ?_
                        refine x_istore_n d_P_rule_329 3 rfl [some (.ref ((σ 30).1)), some (vi (R 30 2)), some (vi 1), some (vi 0), none, none] rfl rfl (lr rfl) ?_
                        have hlt : R 30 3 < 10 := by omega
                        have hnd : ¬ rDup (gM R) (rL R) (rN R) (rS R) := fun ⟨r9, d1, d2, d3⟩ => hnr r9 d1 (by have : r9 < R 30 3 := d2; omega) d3
                        have xr35 : ∀ q, Q2 35 q = if q = R 30 3 then rL R else R 35 q := fun q => by
                          rw [xr_o hQ2 (by decide)]
                          by_cases e : q = R 30 3
                          · rw [if_pos e, xr_e hQ1 (by omega)]; rfl
                          · rw [if_neg e, xr_d hQ1 e]; exact hk3 35 q (by decide) (by omega)
                        have xr36 : ∀ q, Q2 36 q = if q = R 30 3 then rN R else R 36 q := fun q => by
                          by_cases e : q = R 30 3
                          · rw [if_pos e, xr_e hQ2 (by omega)]; rfl
                          · rw [if_neg e, xr_d hQ2 e, xr_o hQ1 (by decide)]; exact hk3 36 q (by decide) (by omega)
                        have k37 : ∀ q, Q2 37 q = R 37 q := fun q => by rw [xr_o hQ2 (by decide), xr_o hQ1 (by decide)]; exact hk3 37 q (by decide) (by omega)
                        have k03 : Q2 30 3 = R 30 3 := by rw [xr_o hQ2 (by decide), xr_o hQ1 (by decide)]; exact hk3 30 3 (by decide) (by decide)
                        have k02 : Q2 30 2 = 0 := by rw [xr_o hQ2 (by decide), xr_o hQ1 (by decide)]; exact h02
                        have k00 : Q2 30 0 = 0 := by rw [xr_o hQ2 (by decide), xr_o hQ1 (by decide)]; exact h00
                        have k4 : ∀ p q, p ≠ 35 → p ≠ 36 → p ≠ 49 → ¬ (p = 30 ∧ (q = 0 ∨ q = 2)) → Q2 p q = R p q := fun p q a b c d => by rw [xr_o hQ2 b, xr_o hQ1 a]; exact hk3 p q c d
                        replace hfr : ∀ j, 0 ≤ j → j < R 30 2 - 2 → Q2 49 j = rS R j := fun j a b => by rw [xr_o hQ2 (by decide), xr_o hQ1 (by decide)]; exact hfr j a (by omega)
                        generalize Q2 = R4 at xr35 xr36 k37 k03 k02 k00 k4 hfr ⊢
                        have hl5 : ∀ (m : Nat) (k : Int) (R5 : xR), (16 - k).toNat = m → (0 ≤ k ∧ k ≤ R 30 2 - 2) → (∀ p q, p ≠ 37 → ¬ (p = 37 ∧ q = 37) → R5 p q = R4 p q) → (∀ q, (q < 4 * R 30 3 ∨ 4 * R 30 3 + k ≤ q) → R5 37 q = R4 37 q) → (∀ j, 0 ≤ j → j < k → R5 37 (4 * R 30 3 + j) = R4 49 j) → V X m_P_rule (2, 0, 0, Zm σ (mRu R)) σ R5 0 0 330 [some (.ref ((σ 30).1)), some (vi (R 30 2)), some (vi 1), some (vi k), none, none] [] := by
                          intro m
                          induction m using Nat.strongRecOn with
                          | _ m ih5 =>
                            intro k R5 hm5 hk1 f0 f37 fn
                            refine x_iload_n d_P_rule_330 3 rfl rfl ?_
                            refine x_iload_n d_P_rule_331 1 rfl rfl ?_
                            refine x_iconst d_P_rule_332 ?_
                            refine x_isub d_P_rule_333 ?_
                            refine x_icmp_ge (tgt := 362) d_P_rule_334 rfl (by omega) (by omega) (fun c334 => ?_) (fun c334 => ?_)
                            · refine x_aload_n d_P_rule_362 0 rfl rfl ?_
                              refine x_dup d_P_rule_363 rfl ?_
                              refine x_geti 30 3 3 (R 30 3) fl_P_90 tk_23_3 (hM.at 0 rfl) rfl rfl ((f0 30 3 (by decide) (by decide)).trans k03) d_P_rule_364 ?_
                              refine x_iconst d_P_rule_367 ?_
                              refine x_iadd d_P_rule_368 ?_
                              refine x_puti 30 3 3 fp_P_90 tk_23_3 (hM.at 0 rfl) rfl rfl d_P_rule_369 (fun Q1 hQ1 => ?_)
                              refine x_aload_n d_P_rule_372 0 rfl rfl ?_
                              refine x_iconst d_P_rule_373 ?_
                              refine x_puti 30 12 12 fp_P_93 tk_23_12 (hM.at 0 rfl) rfl rfl d_P_rule_374 (fun Q2 hQ2 => ?_)
                              refine x_aload_n d_P_rule_377 0 rfl rfl ?_
                              refine x_cvv 30 (As := []) (c_P_forget (R := Q2) hM) cs_P_96 hthis rfl rfl (lr rfl) d_P_rule_378 (lr rfl) ⟨lr rfl, lr rfl⟩ (fun Q3 hQ3 => ?_)
                              have o1 : ∀ p q, p ≠ 30 → Q3 p q = R5 p q := fun p q a => by rw [hQ3, xr_o rfl a, xr_o rfl a, xr_o hQ2 a, xr_o hQ1 a]
                              have o2 : ∀ q, q ≠ 3 → q ≠ 12 → q ≠ 22 → q ≠ 23 → Q3 30 q = R5 30 q := fun q a b c d => by rw [hQ3, xr_d rfl d, xr_d rfl c, xr_d hQ2 b, xr_d hQ1 a]
                              have o3 : Q3 30 3 = R 30 3 + 1 := by rw [hQ3, xr_d rfl (by decide), xr_d rfl (by decide), xr_d hQ2 (by decide), xr_s hQ1]
                              have o12 : Q3 30 12 = 0 := by rw [hQ3, xr_d rfl (by decide), xr_d rfl (by decide), xr_s hQ2]
                              have o22 : Q3 30 22 = 0 := by rw [hQ3, xr_d rfl (by decide), xr_s rfl]
                              have o23 : Q3 30 23 = 0 := by rw [hQ3, xr_s rfl]
                              have hput := mRu.put (Rn := Q3) hg hgd hlt o3 (fun q => by rw [o1 35 q (by decide), f0 35 q (by decide) (by omega), xr35 q]) (fun q => by rw [o1 36 q (by decide), f0 36 q (by decide) (by omega), xr36 q]) (fun q hq => by rw [o1 37 q (by decide), f37 q (by omega)]; exact k37 q) (fun j a b => by rw [o1 37 _ (by decide)]; exact (fn j a (by unfold rN at b; omega)).trans (hfr j a (by unfold rN at b; omega)))
                              have hkk : ∀ p q, p ≠ 35 → p ≠ 36 → p ≠ 37 → p ≠ 49 → ¬ (p = 30 ∧ (q = 0 ∨ q = 2 ∨ q = 3 ∨ q = 12 ∨ q = 22 ∨ q = 23)) → Q3 p q = R p q := fun p q a b c d e => by
                                by_cases hp : p = 30
                                · rw [hp, o2 q (by omega) (by omega) (by omega) (by omega), ← hp, f0 p q c (by omega)]; exact k4 p q a b d (by omega)
                                · rw [o1 p q hp, f0 p q c (by omega)]; exact k4 p q a b d (by omega)
                              refine x_aload_n d_P_rule_381 0 rfl rfl ?_
                              refine x_geti 30 3 3 (R 30 3 + 1) fl_P_90 tk_23_3 (hM.at 0 rfl) rfl rfl o3 d_P_rule_382 ?_
                              refine x_iconst d_P_rule_385 ?_
                              refine x_isub d_P_rule_386 ?_
                              exact x_iret d_P_rule_387 rfl (lr rfl) (lr rfl) (⟨_, rfl, rfl, (o2 2 (by decide) (by decide) (by decide) (by decide)).trans ((f0 30 2 (by decide) (by decide)).trans k02), Or.inr (Or.inr ⟨hgd, hnd, hlt, (o2 0 (by decide) (by decide) (by decide) (by decide)).trans ((f0 30 0 (by decide) (by decide)).trans k00), by omega, o12, o22, o23, hput.1, hput.2, hkk⟩)⟩)
                            · refine x_aload_n d_P_rule_337 0 rfl rfl ?_
                              refine x_getc 30 6 37 37 fl_P_20 tk_23_6 (hM.at 0 rfl) rfl rfl d_P_rule_338 ?_
                              refine x_iconst d_P_rule_341 ?_
                              refine x_aload_n d_P_rule_342 0 rfl rfl ?_
                              refine x_geti 30 3 3 (R 30 3) fl_P_90 tk_23_3 (hM.at 0 rfl) rfl rfl ((f0 30 3 (by decide) (by decide)).trans k03) d_P_rule_343 ?_
                              refine x_imul d_P_rule_346 ?_
                              refine x_iload_n d_P_rule_347 3 rfl rfl ?_
                              refine x_iadd d_P_rule_348 ?_
                              refine x_aload_n d_P_rule_349 0 rfl rfl ?_
                              refine x_getc 30 18 49 49 fl_P_45 tk_23_18 (hM.at 0 rfl) rfl rfl d_P_rule_350 ?_
                              refine x_iload_n d_P_rule_353 3 rfl rfl ?_
                              refine x_iald 49 (R4 49 k) (hM.at 12 rfl) rfl ⟨by decide, rfl, by decide⟩ rfl (by omega) (f0 49 k (by decide) (by omega)) d_P_rule_354 ?_
                              refine x_iast 37 (hM.at 4 rfl) rfl ⟨by decide, rfl, by decide⟩ rfl (by omega) d_P_rule_355 (fun Q4 hQ4 => ?_)
                              refine x_iinc d_P_rule_356 rfl [some (.ref ((σ 30).1)), some (vi (R 30 2)), some (vi 1), some (vi (k + 1)), none, none] rfl rfl (lr rfl) ?_
                              refine x_goto (tgt := 330) d_P_rule_359 rfl ?_
                              exact ih5 _ (by omega) (k + 1) Q4 rfl (by omega) (fun p q a b => (xr_o hQ4 a).trans (f0 p q a b)) (fun q hq => (xr_d hQ4 (by omega)).trans (f37 q (by omega))) (fun j a b => by
                                by_cases e : j = k
                                · rw [e, xr_s hQ4]
                                · rw [xr_d hQ4 (by omega)]; exact fn j a (by omega))
                        exact hl5 _ 0 R4 rfl (by omega) (fun _ _ _ _ => rfl) (fun _ _ => rfl) (fun j a b => by omega)
                      · refine x_aload_n d_P_rule_292 0 rfl rfl ?_
                        refine x_iconst d_P_rule_293 ?_
                        refine x_cvm 30 (As := [vi 2]) (c_P_fails (R := R2) hM 2) cs_P_86 hthis rfl rfl (lr rfl) d_P_rule_294 (lr rfl) ⟨lr rfl, lr rfl⟩ (fun z3 Q4 hQ4 => ?_)
                        exact x_iret d_P_rule_297 rfl (lr rfl) (lr rfl) (⟨_, rfl, rfl, by rw [hQ4.2, xr_d rfl (by decide)]; exact h02, Or.inr (Or.inl ⟨hgd, fun ⟨r9, d1, d2, d3⟩ => hnr r9 d1 (by have : r9 < R 30 3 := d2; omega) d3, by omega, by rw [hQ4.2, xr_s rfl], fun p q a b => by rw [hQ4.2, xr_up rfl (by omega)]; exact hk3 p q a b⟩)⟩)
                    · have hr9 := hg.2.1 r (by omega) (by omega)
                      have hb9 := hgd.1.2.1
                      refine x_aload_n d_P_rule_179 0 rfl rfl ?_
                      refine x_getc 30 4 35 35 fl_P_13 tk_23_4 (hM.at 0 rfl) rfl rfl d_P_rule_180 ?_
                      refine x_iload_n d_P_rule_183 3 rfl rfl ?_
                      refine x_iald 35 (R 35 r) (hM.at 2 rfl) rfl ⟨by decide, rfl, by decide⟩ rfl (by omega) (hk3 35 r (by decide) (by omega)) d_P_rule_184 ?_
                      refine x_aload_n d_P_rule_185 0 rfl rfl ?_
                      refine x_getc 30 1 32 32 fl_P_7 tk_23_1 (hM.at 0 rfl) rfl rfl d_P_rule_186 ?_
                      refine x_iconst d_P_rule_189 ?_
                      refine x_cald 32 (R 32 0) (hM.at 1 rfl) rfl ⟨by decide, rfl, by decide⟩ rfl (by omega) (hk3 32 0 (by decide) (by omega)) d_P_rule_190 ?_
                      refine x_bipush d_P_rule_191 rfl ?_
                      refine x_isub d_P_rule_193 ?_
                      refine x_icmp_ne (tgt := 213) d_P_rule_194 rfl (by omega) (by omega) (fun c194 => ?_) (fun c194 => ?_)
                      · refine x_iconst d_P_rule_213 ?_
                        refine x_istore d_P_rule_214 [some (.ref ((σ 30).1)), some (vi (R 30 2)), some (vi 1), some (vi r), some (vi 0), none] rfl rfl (lr rfl) ?_
                        refine x_iconst d_P_rule_216 ?_
                        refine x_istore d_P_rule_217 [some (.ref ((σ 30).1)), some (vi (R 30 2)), some (vi 1), some (vi r), some (vi 0), some (vi 0)] rfl rfl (lr rfl) ?_
                        have hl4 : ∀ (m : Nat) (j : Int) (sm : Int), (16 - j).toNat = m → (0 ≤ j ∧ j ≤ R 30 2 - 2) → (sm = zc (R 35 r = rL R ∧ R 36 r = R 30 2 - 2 ∧ ∀ i, 0 ≤ i → i < j → R 37 (4 * r + i) = rS R i)) → V X m_P_rule (2, 0, 0, Zm σ (mRu R)) σ R2 0 0 219 [some (.ref ((σ 30).1)), some (vi (R 30 2)), some (vi 1), some (vi r), some (vi sm), some (vi j)] [] := by
                          intro m
                          induction m using Nat.strongRecOn with
                          | _ m ih4 =>
                            intro j sm hm4 hj1 hsm
                            refine x_iload d_P_rule_219 rfl ?_
                            refine x_iload_n d_P_rule_221 1 rfl rfl ?_
                            refine x_iconst d_P_rule_222 ?_
                            refine x_isub d_P_rule_223 ?_
                            refine x_icmp_ge (tgt := 266) d_P_rule_224 rfl (by omega) (by omega) (fun c224 => ?_) (fun c224 => ?_)
                            · have hzo := zc_or (R 35 r = rL R ∧ R 36 r = R 30 2 - 2 ∧ ∀ i, 0 ≤ i → i < j → R 37 (4 * r + i) = rS R i)
                              refine x_iload d_P_rule_266 rfl ?_
                              refine x_if_eq (tgt := 277) d_P_rule_268 rfl (by omega) (fun c268 => ?_) (fun c268 => ?_)
                              · refine x_iinc d_P_rule_277 rfl [some (.ref ((σ 30).1)), some (vi (R 30 2)), some (vi 1), some (vi (r + 1)), some (vi sm), some (vi j)] rfl rfl (lr rfl) ?_
                                refine x_goto (tgt := 171) d_P_rule_280 rfl ?_
                                refine V.forget 4 [some (.ref ((σ 30).1)), some (vi (R 30 2)), some (vi 1), some (vi (r + 1)), none, some (vi j)] rfl ?_
                                refine V.forget 5 [some (.ref ((σ 30).1)), some (vi (R 30 2)), some (vi 1), some (vi (r + 1)), none, none] rfl ?_
                                exact ihr _ (by omega) (r + 1) rfl (by omega) (fun r2 a b hs => by
                                  by_cases e : r2 = r
                                  · rw [e] at hs; exact zc_eq0.mp (hsm.symm.trans (by omega : sm = 0)) ⟨hs.1, hs.2.1, fun i c d => hs.2.2 i c (by unfold rN; omega)⟩
                                  · exact hnr r2 a (by omega) hs)
                              · refine x_aload_n d_P_rule_271 0 rfl rfl ?_
                                refine x_iconst d_P_rule_272 ?_
                                refine x_cvm 30 (As := [vi 1]) (c_P_fails (R := R2) hM 1) cs_P_86 hthis rfl rfl (lr rfl) d_P_rule_273 (lr rfl) ⟨lr rfl, lr rfl⟩ (fun z1 Q2 hQ2 => ?_)
                                exact x_iret d_P_rule_276 rfl (lr rfl) (lr rfl) (⟨_, rfl, rfl, by rw [hQ2.2, xr_d rfl (by decide)]; exact h02, Or.inl ⟨Or.inr ⟨r, by omega, (by omega : r < R 30 3), by have q := zc_eq1.mp (hsm.symm.trans (by omega : sm = 1)); exact ⟨q.1, q.2.1, fun i a b => q.2.2 i a (by unfold rN at b; omega)⟩⟩, by rw [hQ2.2, xr_s rfl], fun p q a b => by rw [hQ2.2, xr_up rfl (by omega)]; exact hk3 p q a b⟩⟩)
                            · have hzo := zc_or (R 35 r = rL R ∧ R 36 r = R 30 2 - 2 ∧ ∀ i, 0 ≤ i → i < j → R 37 (4 * r + i) = rS R i)
                              refine x_iload d_P_rule_227 rfl ?_
                              refine x_if_eq (tgt := 266) d_P_rule_229 rfl (by omega) (fun c229 => ?_) (fun c229 => ?_)
                              · have hzo := zc_or (R 35 r = rL R ∧ R 36 r = R 30 2 - 2 ∧ ∀ i, 0 ≤ i → i < j → R 37 (4 * r + i) = rS R i)
                                refine x_iload d_P_rule_266 rfl ?_
                                refine x_if_eq (tgt := 277) d_P_rule_268 rfl (by omega) (fun c268 => ?_) (fun c268 => ?_)
                                · refine x_iinc d_P_rule_277 rfl [some (.ref ((σ 30).1)), some (vi (R 30 2)), some (vi 1), some (vi (r + 1)), some (vi sm), some (vi j)] rfl rfl (lr rfl) ?_
                                  refine x_goto (tgt := 171) d_P_rule_280 rfl ?_
                                  refine V.forget 4 [some (.ref ((σ 30).1)), some (vi (R 30 2)), some (vi 1), some (vi (r + 1)), none, some (vi j)] rfl ?_
                                  refine V.forget 5 [some (.ref ((σ 30).1)), some (vi (R 30 2)), some (vi 1), some (vi (r + 1)), none, none] rfl ?_
                                  exact ihr _ (by omega) (r + 1) rfl (by omega) (fun r2 a b hs => by
                                    by_cases e : r2 = r
                                    · rw [e] at hs; exact zc_eq0.mp (hsm.symm.trans (by omega : sm = 0)) ⟨hs.1, hs.2.1, fun i c d => hs.2.2 i c (by unfold rN; omega)⟩
                                    · exact hnr r2 a (by omega) hs)
                                · refine x_aload_n d_P_rule_271 0 rfl rfl ?_
                                  refine x_iconst d_P_rule_272 ?_
                                  refine x_cvm 30 (As := [vi 1]) (c_P_fails (R := R2) hM 1) cs_P_86 hthis rfl rfl (lr rfl) d_P_rule_273 (lr rfl) ⟨lr rfl, lr rfl⟩ (fun z3 Q4 hQ4 => ?_)
                                  exact x_iret d_P_rule_276 rfl (lr rfl) (lr rfl) (⟨_, rfl, rfl, by rw [hQ4.2, xr_d rfl (by decide)]; exact h02, Or.inl ⟨Or.inr ⟨r, by omega, (by omega : r < R 30 3), by have q := zc_eq1.mp (hsm.symm.trans (by omega : sm = 1)); exact ⟨q.1, q.2.1, fun i a b => q.2.2 i a (by unfold rN at b; omega)⟩⟩, by rw [hQ4.2, xr_s rfl], fun p q a b => by rw [hQ4.2, xr_up rfl (by omega)]; exact hk3 p q a b⟩⟩)
                              · have hl4 := (hg.2.1 r (by omega) (by omega)).2
                                have q36 := (zc_eq1.mp (hsm.symm.trans (by omega : sm = 1))).2.1
                                have hy1 := hg.2.2 r j (by omega) (by omega) (by omega) (by omega)
                                have hcl9 := rSy_rng (hgd.2 (j + 2) (by omega) (by omega))
                                have hcl8 : rS R j = rSy (R 32 (j + 2)) := rfl
                                refine x_aload_n d_P_rule_232 0 rfl rfl ?_
                                refine x_getc 30 6 37 37 fl_P_20 tk_23_6 (hM.at 0 rfl) rfl rfl d_P_rule_233 ?_
                                refine x_iconst d_P_rule_236 ?_
                                refine x_iload_n d_P_rule_237 3 rfl rfl ?_
                                refine x_imul d_P_rule_238 ?_
                                refine x_iload d_P_rule_239 rfl ?_
                                refine x_iadd d_P_rule_241 ?_
                                refine x_iald 37 (R 37 (4 * r + j)) (hM.at 4 rfl) rfl ⟨by decide, rfl, by decide⟩ rfl (by omega) (hk3 37 _ (by decide) (by omega)) d_P_rule_242 ?_
                                refine x_aload_n d_P_rule_243 0 rfl rfl ?_
                                refine x_getc 30 18 49 49 fl_P_45 tk_23_18 (hM.at 0 rfl) rfl rfl d_P_rule_244 ?_
                                refine x_iload d_P_rule_247 rfl ?_
                                refine x_iald 49 (rS R j) (hM.at 12 rfl) rfl ⟨by decide, rfl, by decide⟩ rfl (by omega) (hfr j (by omega) (by omega)) d_P_rule_249 ?_
                                refine x_icmp_ne (tgt := 257) d_P_rule_250 rfl (by omega) (by omega) (fun c250 => ?_) (fun c250 => ?_)
                                · refine x_iconst d_P_rule_257 ?_
                                  refine x_istore d_P_rule_258 [some (.ref ((σ 30).1)), some (vi (R 30 2)), some (vi 1), some (vi r), some (vi 0), some (vi j)] rfl rfl (lr rfl) ?_
                                  refine x_iinc d_P_rule_260 rfl [some (.ref ((σ 30).1)), some (vi (R 30 2)), some (vi 1), some (vi r), some (vi 0), some (vi (j + 1))] rfl rfl (lr rfl) ?_
                                  refine x_goto (tgt := 219) d_P_rule_263 rfl ?_
                                  have q := zc_eq1.mp (hsm.symm.trans (by omega : sm = 1))
                                  exact ih4 _ (by omega) (j + 1) 0 rfl (by omega) ((zc_f (fun z => c250 (by have := z.2.2 j (by omega) (by omega); omega))).symm)
                                · refine x_iconst d_P_rule_253 ?_
                                  refine x_goto (tgt := 258) d_P_rule_254 rfl ?_
                                  refine x_istore d_P_rule_258 [some (.ref ((σ 30).1)), some (vi (R 30 2)), some (vi 1), some (vi r), some (vi 1), some (vi j)] rfl rfl (lr rfl) ?_
                                  refine x_iinc d_P_rule_260 rfl [some (.ref ((σ 30).1)), some (vi (R 30 2)), some (vi 1), some (vi r), some (vi 1), some (vi (j + 1))] rfl rfl (lr rfl) ?_
                                  refine x_goto (tgt := 219) d_P_rule_263 rfl ?_
                                  have q := zc_eq1.mp (hsm.symm.trans (by omega : sm = 1))
                                  exact ih4 _ (by omega) (j + 1) 1 rfl (by omega) ((zc_t ⟨q.1, q.2.1, fun i a b => by by_cases e : i = j; (rw [e]; omega); exact q.2.2 i a (by omega)⟩).symm)
                        exact hl4 _ 0 0 rfl (by omega) ((zc_f (fun z => by have h1 := z.1; have h2 := z.2.1; unfold rL at h1; omega)).symm)
                      · refine x_aload_n d_P_rule_197 0 rfl rfl ?_
                        refine x_getc 30 5 36 36 fl_P_17 tk_23_5 (hM.at 0 rfl) rfl rfl d_P_rule_198 ?_
                        refine x_iload_n d_P_rule_201 3 rfl rfl ?_
                        refine x_iald 36 (R 36 r) (hM.at 3 rfl) rfl ⟨by decide, rfl, by decide⟩ rfl (by omega) (hk3 36 r (by decide) (by omega)) d_P_rule_202 ?_
                        refine x_iload_n d_P_rule_203 1 rfl rfl ?_
                        refine x_iconst d_P_rule_204 ?_
                        refine x_isub d_P_rule_205 ?_
                        refine x_icmp_ne (tgt := 213) d_P_rule_206 rfl (by omega) (by omega) (fun c206 => ?_) (fun c206 => ?_)
                        · refine x_iconst d_P_rule_213 ?_
                          refine x_istore d_P_rule_214 [some (.ref ((σ 30).1)), some (vi (R 30 2)), some (vi 1), some (vi r), some (vi 0), none] rfl rfl (lr rfl) ?_
                          refine x_iconst d_P_rule_216 ?_
                          refine x_istore d_P_rule_217 [some (.ref ((σ 30).1)), some (vi (R 30 2)), some (vi 1), some (vi r), some (vi 0), some (vi 0)] rfl rfl (lr rfl) ?_
                          have hl4 : ∀ (m : Nat) (j : Int) (sm : Int), (16 - j).toNat = m → (0 ≤ j ∧ j ≤ R 30 2 - 2) → (sm = zc (R 35 r = rL R ∧ R 36 r = R 30 2 - 2 ∧ ∀ i, 0 ≤ i → i < j → R 37 (4 * r + i) = rS R i)) → V X m_P_rule (2, 0, 0, Zm σ (mRu R)) σ R2 0 0 219 [some (.ref ((σ 30).1)), some (vi (R 30 2)), some (vi 1), some (vi r), some (vi sm), some (vi j)] [] := by
                            intro m
                            induction m using Nat.strongRecOn with
                            | _ m ih4 =>
                              intro j sm hm4 hj1 hsm
                              refine x_iload d_P_rule_219 rfl ?_
                              refine x_iload_n d_P_rule_221 1 rfl rfl ?_
                              refine x_iconst d_P_rule_222 ?_
                              refine x_isub d_P_rule_223 ?_
                              refine x_icmp_ge (tgt := 266) d_P_rule_224 rfl (by omega) (by omega) (fun c224 => ?_) (fun c224 => ?_)
                              · have hzo := zc_or (R 35 r = rL R ∧ R 36 r = R 30 2 - 2 ∧ ∀ i, 0 ≤ i → i < j → R 37 (4 * r + i) = rS R i)
                                refine x_iload d_P_rule_266 rfl ?_
                                refine x_if_eq (tgt := 277) d_P_rule_268 rfl (by omega) (fun c268 => ?_) (fun c268 => ?_)
                                · refine x_iinc d_P_rule_277 rfl [some (.ref ((σ 30).1)), some (vi (R 30 2)), some (vi 1), some (vi (r + 1)), some (vi sm), some (vi j)] rfl rfl (lr rfl) ?_
                                  refine x_goto (tgt := 171) d_P_rule_280 rfl ?_
                                  refine V.forget 4 [some (.ref ((σ 30).1)), some (vi (R 30 2)), some (vi 1), some (vi (r + 1)), none, some (vi j)] rfl ?_
                                  refine V.forget 5 [some (.ref ((σ 30).1)), some (vi (R 30 2)), some (vi 1), some (vi (r + 1)), none, none] rfl ?_
                                  exact ihr _ (by omega) (r + 1) rfl (by omega) (fun r2 a b hs => by
                                    by_cases e : r2 = r
                                    · rw [e] at hs; exact zc_eq0.mp (hsm.symm.trans (by omega : sm = 0)) ⟨hs.1, hs.2.1, fun i c d => hs.2.2 i c (by unfold rN; omega)⟩
                                    · exact hnr r2 a (by omega) hs)
                                · refine x_aload_n d_P_rule_271 0 rfl rfl ?_
                                  refine x_iconst d_P_rule_272 ?_
                                  refine x_cvm 30 (As := [vi 1]) (c_P_fails (R := R2) hM 1) cs_P_86 hthis rfl rfl (lr rfl) d_P_rule_273 (lr rfl) ⟨lr rfl, lr rfl⟩ (fun z1 Q2 hQ2 => ?_)
                                  exact x_iret d_P_rule_276 rfl (lr rfl) (lr rfl) (⟨_, rfl, rfl, by rw [hQ2.2, xr_d rfl (by decide)]; exact h02, Or.inl ⟨Or.inr ⟨r, by omega, (by omega : r < R 30 3), by have q := zc_eq1.mp (hsm.symm.trans (by omega : sm = 1)); exact ⟨q.1, q.2.1, fun i a b => q.2.2 i a (by unfold rN at b; omega)⟩⟩, by rw [hQ2.2, xr_s rfl], fun p q a b => by rw [hQ2.2, xr_up rfl (by omega)]; exact hk3 p q a b⟩⟩)
                              · have hzo := zc_or (R 35 r = rL R ∧ R 36 r = R 30 2 - 2 ∧ ∀ i, 0 ≤ i → i < j → R 37 (4 * r + i) = rS R i)
                                refine x_iload d_P_rule_227 rfl ?_
                                refine x_if_eq (tgt := 266) d_P_rule_229 rfl (by omega) (fun c229 => ?_) (fun c229 => ?_)
                                · have hzo := zc_or (R 35 r = rL R ∧ R 36 r = R 30 2 - 2 ∧ ∀ i, 0 ≤ i → i < j → R 37 (4 * r + i) = rS R i)
                                  refine x_iload d_P_rule_266 rfl ?_
                                  refine x_if_eq (tgt := 277) d_P_rule_268 rfl (by omega) (fun c268 => ?_) (fun c268 => ?_)
                                  · refine x_iinc d_P_rule_277 rfl [some (.ref ((σ 30).1)), some (vi (R 30 2)), some (vi 1), some (vi (r + 1)), some (vi sm), some (vi j)] rfl rfl (lr rfl) ?_
                                    refine x_goto (tgt := 171) d_P_rule_280 rfl ?_
                                    refine V.forget 4 [some (.ref ((σ 30).1)), some (vi (R 30 2)), some (vi 1), some (vi (r + 1)), none, some (vi j)] rfl ?_
                                    refine V.forget 5 [some (.ref ((σ 30).1)), some (vi (R 30 2)), some (vi 1), some (vi (r + 1)), none, none] rfl ?_
                                    exact ihr _ (by omega) (r + 1) rfl (by omega) (fun r2 a b hs => by
                                      by_cases e : r2 = r
                                      · rw [e] at hs; exact zc_eq0.mp (hsm.symm.trans (by omega : sm = 0)) ⟨hs.1, hs.2.1, fun i c d => hs.2.2 i c (by unfold rN; omega)⟩
                                      · exact hnr r2 a (by omega) hs)
                                  · refine x_aload_n d_P_rule_271 0 rfl rfl ?_
                                    refine x_iconst d_P_rule_272 ?_
                                    refine x_cvm 30 (As := [vi 1]) (c_P_fails (R := R2) hM 1) cs_P_86 hthis rfl rfl (lr rfl) d_P_rule_273 (lr rfl) ⟨lr rfl, lr rfl⟩ (fun z3 Q4 hQ4 => ?_)
                                    exact x_iret d_P_rule_276 rfl (lr rfl) (lr rfl) (⟨_, rfl, rfl, by rw [hQ4.2, xr_d rfl (by decide)]; exact h02, Or.inl ⟨Or.inr ⟨r, by omega, (by omega : r < R 30 3), by have q := zc_eq1.mp (hsm.symm.trans (by omega : sm = 1)); exact ⟨q.1, q.2.1, fun i a b => q.2.2 i a (by unfold rN at b; omega)⟩⟩, by rw [hQ4.2, xr_s rfl], fun p q a b => by rw [hQ4.2, xr_up rfl (by omega)]; exact hk3 p q a b⟩⟩)
                                · have hl4 := (hg.2.1 r (by omega) (by omega)).2
                                  have q36 := (zc_eq1.mp (hsm.symm.trans (by omega : sm = 1))).2.1
                                  have hy1 := hg.2.2 r j (by omega) (by omega) (by omega) (by omega)
                                  have hcl9 := rSy_rng (hgd.2 (j + 2) (by omega) (by omega))
                                  have hcl8 : rS R j = rSy (R 32 (j + 2)) := rfl
                                  refine x_aload_n d_P_rule_232 0 rfl rfl ?_
                                  refine x_getc 30 6 37 37 fl_P_20 tk_23_6 (hM.at 0 rfl) rfl rfl d_P_rule_233 ?_
                                  refine x_iconst d_P_rule_236 ?_
                                  refine x_iload_n d_P_rule_237 3 rfl rfl ?_
                                  refine x_imul d_P_rule_238 ?_
                                  refine x_iload d_P_rule_239 rfl ?_
                                  refine x_iadd d_P_rule_241 ?_
                                  refine x_iald 37 (R 37 (4 * r + j)) (hM.at 4 rfl) rfl ⟨by decide, rfl, by decide⟩ rfl (by omega) (hk3 37 _ (by decide) (by omega)) d_P_rule_242 ?_
                                  refine x_aload_n d_P_rule_243 0 rfl rfl ?_
                                  refine x_getc 30 18 49 49 fl_P_45 tk_23_18 (hM.at 0 rfl) rfl rfl d_P_rule_244 ?_
                                  refine x_iload d_P_rule_247 rfl ?_
                                  refine x_iald 49 (rS R j) (hM.at 12 rfl) rfl ⟨by decide, rfl, by decide⟩ rfl (by omega) (hfr j (by omega) (by omega)) d_P_rule_249 ?_
                                  refine x_icmp_ne (tgt := 257) d_P_rule_250 rfl (by omega) (by omega) (fun c250 => ?_) (fun c250 => ?_)
                                  · refine x_iconst d_P_rule_257 ?_
                                    refine x_istore d_P_rule_258 [some (.ref ((σ 30).1)), some (vi (R 30 2)), some (vi 1), some (vi r), some (vi 0), some (vi j)] rfl rfl (lr rfl) ?_
                                    refine x_iinc d_P_rule_260 rfl [some (.ref ((σ 30).1)), some (vi (R 30 2)), some (vi 1), some (vi r), some (vi 0), some (vi (j + 1))] rfl rfl (lr rfl) ?_
                                    refine x_goto (tgt := 219) d_P_rule_263 rfl ?_
                                    have q := zc_eq1.mp (hsm.symm.trans (by omega : sm = 1))
                                    exact ih4 _ (by omega) (j + 1) 0 rfl (by omega) ((zc_f (fun z => c250 (by have := z.2.2 j (by omega) (by omega); omega))).symm)
                                  · refine x_iconst d_P_rule_253 ?_
                                    refine x_goto (tgt := 258) d_P_rule_254 rfl ?_
                                    refine x_istore d_P_rule_258 [some (.ref ((σ 30).1)), some (vi (R 30 2)), some (vi 1), some (vi r), some (vi 1), some (vi j)] rfl rfl (lr rfl) ?_
                                    refine x_iinc d_P_rule_260 rfl [some (.ref ((σ 30).1)), some (vi (R 30 2)), some (vi 1), some (vi r), some (vi 1), some (vi (j + 1))] rfl rfl (lr rfl) ?_
                                    refine x_goto (tgt := 219) d_P_rule_263 rfl ?_
                                    have q := zc_eq1.mp (hsm.symm.trans (by omega : sm = 1))
                                    exact ih4 _ (by omega) (j + 1) 1 rfl (by omega) ((zc_t ⟨q.1, q.2.1, fun i a b => by by_cases e : i = j; (rw [e]; omega); exact q.2.2 i a (by omega)⟩).symm)
                          exact hl4 _ 0 0 rfl (by omega) ((zc_f (fun z => by have h1 := z.1; have h2 := z.2.1; unfold rL at h1; omega)).symm)
                        · refine x_iconst d_P_rule_209 ?_
                          refine x_goto (tgt := 214) d_P_rule_210 rfl ?_
                          refine x_istore d_P_rule_214 [some (.ref ((σ 30).1)), some (vi (R 30 2)), some (vi 1), some (vi r), some (vi 1), none] rfl rfl (lr rfl) ?_
                          refine x_iconst d_P_rule_216 ?_
                          refine x_istore d_P_rule_217 [some (.ref ((σ 30).1)), some (vi (R 30 2)), some (vi 1), some (vi r), some (vi 1), some (vi 0)] rfl rfl (lr rfl) ?_
                          have hl4 : ∀ (m : Nat) (j : Int) (sm : Int), (16 - j).toNat = m → (0 ≤ j ∧ j ≤ R 30 2 - 2) → (sm = zc (R 35 r = rL R ∧ R 36 r = R 30 2 - 2 ∧ ∀ i, 0 ≤ i → i < j → R 37 (4 * r + i) = rS R i)) → V X m_P_rule (2, 0, 0, Zm σ (mRu R)) σ R2 0 0 219 [some (.ref ((σ 30).1)), some (vi (R 30 2)), some (vi 1), some (vi r), some (vi sm), some (vi j)] [] := by
                            intro m
                            induction m using Nat.strongRecOn with
                            | _ m ih4 =>
                              intro j sm hm4 hj1 hsm
                              refine x_iload d_P_rule_219 rfl ?_
                              refine x_iload_n d_P_rule_221 1 rfl rfl ?_
                              refine x_iconst d_P_rule_222 ?_
                              refine x_isub d_P_rule_223 ?_
                              refine x_icmp_ge (tgt := 266) d_P_rule_224 rfl (by omega) (by omega) (fun c224 => ?_) (fun c224 => ?_)
                              · have hzo := zc_or (R 35 r = rL R ∧ R 36 r = R 30 2 - 2 ∧ ∀ i, 0 ≤ i → i < j → R 37 (4 * r + i) = rS R i)
                                refine x_iload d_P_rule_266 rfl ?_
                                refine x_if_eq (tgt := 277) d_P_rule_268 rfl (by omega) (fun c268 => ?_) (fun c268 => ?_)
                                · refine x_iinc d_P_rule_277 rfl [some (.ref ((σ 30).1)), some (vi (R 30 2)), some (vi 1), some (vi (r + 1)), some (vi sm), some (vi j)] rfl rfl (lr rfl) ?_
                                  refine x_goto (tgt := 171) d_P_rule_280 rfl ?_
                                  refine V.forget 4 [some (.ref ((σ 30).1)), some (vi (R 30 2)), some (vi 1), some (vi (r + 1)), none, some (vi j)] rfl ?_
                                  refine V.forget 5 [some (.ref ((σ 30).1)), some (vi (R 30 2)), some (vi 1), some (vi (r + 1)), none, none] rfl ?_
                                  exact ihr _ (by omega) (r + 1) rfl (by omega) (fun r2 a b hs => by
                                    by_cases e : r2 = r
                                    · rw [e] at hs; exact zc_eq0.mp (hsm.symm.trans (by omega : sm = 0)) ⟨hs.1, hs.2.1, fun i c d => hs.2.2 i c (by unfold rN; omega)⟩
                                    · exact hnr r2 a (by omega) hs)
                                · refine x_aload_n d_P_rule_271 0 rfl rfl ?_
                                  refine x_iconst d_P_rule_272 ?_
                                  refine x_cvm 30 (As := [vi 1]) (c_P_fails (R := R2) hM 1) cs_P_86 hthis rfl rfl (lr rfl) d_P_rule_273 (lr rfl) ⟨lr rfl, lr rfl⟩ (fun z1 Q2 hQ2 => ?_)
                                  exact x_iret d_P_rule_276 rfl (lr rfl) (lr rfl) (⟨_, rfl, rfl, by rw [hQ2.2, xr_d rfl (by decide)]; exact h02, Or.inl ⟨Or.inr ⟨r, by omega, (by omega : r < R 30 3), by have q := zc_eq1.mp (hsm.symm.trans (by omega : sm = 1)); exact ⟨q.1, q.2.1, fun i a b => q.2.2 i a (by unfold rN at b; omega)⟩⟩, by rw [hQ2.2, xr_s rfl], fun p q a b => by rw [hQ2.2, xr_up rfl (by omega)]; exact hk3 p q a b⟩⟩)
                              · have hzo := zc_or (R 35 r = rL R ∧ R 36 r = R 30 2 - 2 ∧ ∀ i, 0 ≤ i → i < j → R 37 (4 * r + i) = rS R i)
                                refine x_iload d_P_rule_227 rfl ?_
                                refine x_if_eq (tgt := 266) d_P_rule_229 rfl (by omega) (fun c229 => ?_) (fun c229 => ?_)
                                · have hzo := zc_or (R 35 r = rL R ∧ R 36 r = R 30 2 - 2 ∧ ∀ i, 0 ≤ i → i < j → R 37 (4 * r + i) = rS R i)
                                  refine x_iload d_P_rule_266 rfl ?_
                                  refine x_if_eq (tgt := 277) d_P_rule_268 rfl (by omega) (fun c268 => ?_) (fun c268 => ?_)
                                  · refine x_iinc d_P_rule_277 rfl [some (.ref ((σ 30).1)), some (vi (R 30 2)), some (vi 1), some (vi (r + 1)), some (vi sm), some (vi j)] rfl rfl (lr rfl) ?_
                                    refine x_goto (tgt := 171) d_P_rule_280 rfl ?_
                                    refine V.forget 4 [some (.ref ((σ 30).1)), some (vi (R 30 2)), some (vi 1), some (vi (r + 1)), none, some (vi j)] rfl ?_
                                    refine V.forget 5 [some (.ref ((σ 30).1)), some (vi (R 30 2)), some (vi 1), some (vi (r + 1)), none, none] rfl ?_
                                    exact ihr _ (by omega) (r + 1) rfl (by omega) (fun r2 a b hs => by
                                      by_cases e : r2 = r
                                      · rw [e] at hs; exact zc_eq0.mp (hsm.symm.trans (by omega : sm = 0)) ⟨hs.1, hs.2.1, fun i c d => hs.2.2 i c (by unfold rN; omega)⟩
                                      · exact hnr r2 a (by omega) hs)
                                  · refine x_aload_n d_P_rule_271 0 rfl rfl ?_
                                    refine x_iconst d_P_rule_272 ?_
                                    refine x_cvm 30 (As := [vi 1]) (c_P_fails (R := R2) hM 1) cs_P_86 hthis rfl rfl (lr rfl) d_P_rule_273 (lr rfl) ⟨lr rfl, lr rfl⟩ (fun z3 Q4 hQ4 => ?_)
                                    exact x_iret d_P_rule_276 rfl (lr rfl) (lr rfl) (⟨_, rfl, rfl, by rw [hQ4.2, xr_d rfl (by decide)]; exact h02, Or.inl ⟨Or.inr ⟨r, by omega, (by omega : r < R 30 3), by have q := zc_eq1.mp (hsm.symm.trans (by omega : sm = 1)); exact ⟨q.1, q.2.1, fun i a b => q.2.2 i a (by unfold rN at b; omega)⟩⟩, by rw [hQ4.2, xr_s rfl], fun p q a b => by rw [hQ4.2, xr_up rfl (by omega)]; exact hk3 p q a b⟩⟩)
                                · have hl4 := (hg.2.1 r (by omega) (by omega)).2
                                  have q36 := (zc_eq1.mp (hsm.symm.trans (by omega : sm = 1))).2.1
                                  have hy1 := hg.2.2 r j (by omega) (by omega) (by omega) (by omega)
                                  have hcl9 := rSy_rng (hgd.2 (j + 2) (by omega) (by omega))
                                  have hcl8 : rS R j = rSy (R 32 (j + 2)) := rfl
                                  refine x_aload_n d_P_rule_232 0 rfl rfl ?_
                                  refine x_getc 30 6 37 37 fl_P_20 tk_23_6 (hM.at 0 rfl) rfl rfl d_P_rule_233 ?_
                                  refine x_iconst d_P_rule_236 ?_
                                  refine x_iload_n d_P_rule_237 3 rfl rfl ?_
                                  refine x_imul d_P_rule_238 ?_
                                  refine x_iload d_P_rule_239 rfl ?_
                                  refine x_iadd d_P_rule_241 ?_
                                  refine x_iald 37 (R 37 (4 * r + j)) (hM.at 4 rfl) rfl ⟨by decide, rfl, by decide⟩ rfl (by omega) (hk3 37 _ (by decide) (by omega)) d_P_rule_242 ?_
                                  refine x_aload_n d_P_rule_243 0 rfl rfl ?_
                                  refine x_getc 30 18 49 49 fl_P_45 tk_23_18 (hM.at 0 rfl) rfl rfl d_P_rule_244 ?_
                                  refine x_iload d_P_rule_247 rfl ?_
                                  refine x_iald 49 (rS R j) (hM.at 12 rfl) rfl ⟨by decide, rfl, by decide⟩ rfl (by omega) (hfr j (by omega) (by omega)) d_P_rule_249 ?_
                                  refine x_icmp_ne (tgt := 257) d_P_rule_250 rfl (by omega) (by omega) (fun c250 => ?_) (fun c250 => ?_)
                                  · refine x_iconst d_P_rule_257 ?_
                                    refine x_istore d_P_rule_258 [some (.ref ((σ 30).1)), some (vi (R 30 2)), some (vi 1), some (vi r), some (vi 0), some (vi j)] rfl rfl (lr rfl) ?_
                                    refine x_iinc d_P_rule_260 rfl [some (.ref ((σ 30).1)), some (vi (R 30 2)), some (vi 1), some (vi r), some (vi 0), some (vi (j + 1))] rfl rfl (lr rfl) ?_
                                    refine x_goto (tgt := 219) d_P_rule_263 rfl ?_
                                    have q := zc_eq1.mp (hsm.symm.trans (by omega : sm = 1))
                                    exact ih4 _ (by omega) (j + 1) 0 rfl (by omega) ((zc_f (fun z => c250 (by have := z.2.2 j (by omega) (by omega); omega))).symm)
                                  · refine x_iconst d_P_rule_253 ?_
                                    refine x_goto (tgt := 258) d_P_rule_254 rfl ?_
                                    refine x_istore d_P_rule_258 [some (.ref ((σ 30).1)), some (vi (R 30 2)), some (vi 1), some (vi r), some (vi 1), some (vi j)] rfl rfl (lr rfl) ?_
                                    refine x_iinc d_P_rule_260 rfl [some (.ref ((σ 30).1)), some (vi (R 30 2)), some (vi 1), some (vi r), some (vi 1), some (vi (j + 1))] rfl rfl (lr rfl) ?_
                                    refine x_goto (tgt := 219) d_P_rule_263 rfl ?_
                                    have q := zc_eq1.mp (hsm.symm.trans (by omega : sm = 1))
                                    exact ih4 _ (by omega) (j + 1) 1 rfl (by omega) ((zc_t ⟨q.1, q.2.1, fun i a b => by by_cases e : i = j; (rw [e]; omega); exact q.2.2 i a (by omega)⟩).symm)
                          exact hl4 _ 0 1 rfl (by omega) ((zc_t ⟨by unfold rL; omega, by omega, fun i a b => by omega⟩).symm)
                exact hlr _ 0 rfl (by omega) (fun r2 a b => by omega)
              · have hcl := hgd.2 k (by omega) (by omega)
                unfold rCls at hcl
                refine x_aload_n d_P_rule_119 0 rfl rfl ?_
                refine x_getc 30 18 49 49 fl_P_45 tk_23_18 (hM.at 0 rfl) rfl rfl d_P_rule_120 ?_
                refine x_iload_n d_P_rule_123 3 rfl rfl ?_
                refine x_iconst d_P_rule_124 ?_
                refine x_isub d_P_rule_125 ?_
                refine x_aload_n d_P_rule_126 0 rfl rfl ?_
                refine x_getc 30 1 32 32 fl_P_7 tk_23_1 (hM.at 0 rfl) rfl rfl d_P_rule_127 ?_
                refine x_iload_n d_P_rule_130 3 rfl rfl ?_
                refine x_cald 32 (R 32 k) (hM.at 1 rfl) rfl ⟨by decide, rfl, by decide⟩ rfl (by omega) (hk2 32 k (by decide) (by omega)) d_P_rule_131 ?_
                have hc9 := hch k (by omega) (by omega)
                refine x_csi  (As := [vi (R 32 k)]) (c_P_isLetter (R := R2) (R 32 k) (by omega)) cs_P_83 rfl rfl (lr rfl) d_P_rule_132 (lr rfl) ⟨lr rfl, lr rfl⟩ ?_
                have hcs := zb_cs (97 ≤ R 32 k ∧ R 32 k ≤ 102)
                refine x_if_eq (tgt := 150) d_P_rule_135 rfl (by omega) (fun c135 => ?_) (fun c135 => ?_)
                · refine x_bipush d_P_rule_150 rfl ?_
                  refine x_aload_n d_P_rule_152 0 rfl rfl ?_
                  refine x_getc 30 1 32 32 fl_P_7 tk_23_1 (hM.at 0 rfl) rfl rfl d_P_rule_153 ?_
                  refine x_iload_n d_P_rule_156 3 rfl rfl ?_
                  refine x_cald 32 (R 32 k) (hM.at 1 rfl) rfl ⟨by decide, rfl, by decide⟩ rfl (by omega) (hk2 32 k (by decide) (by omega)) d_P_rule_157 ?_
                  refine x_iadd d_P_rule_158 ?_
                  refine x_bipush d_P_rule_159 rfl ?_
                  refine x_isub d_P_rule_161 ?_
                  refine x_iast 49 (hM.at 12 rfl) rfl ⟨by decide, rfl, by decide⟩ rfl (by omega) d_P_rule_162 (fun Q1 hQ1 => ?_)
                  refine x_iinc d_P_rule_163 rfl [some (.ref ((σ 30).1)), some (vi (R 30 2)), some (vi 1), some (vi (k + 1)), none, none] rfl rfl (lr rfl) ?_
                  refine x_goto (tgt := 114) d_P_rule_166 rfl ?_
                  have hsy : rS R (k - 2) = (6 + (R 32 k)) - 65 := by
                    unfold rS rSy
                    rw [show k - 2 + 2 = k by omega]
                    rw [if_neg (by omega)]
                  exact ih3 _ (by omega) (k + 1) Q1 rfl (by omega) (fun p q a b => (xr_o hQ1 a).trans (hk2 p q a b)) ((xr_o hQ1 (by decide)).trans h02) ((xr_o hQ1 (by decide)).trans h00) (fun j a b => by
                    by_cases e : j = k - 2
                    · rw [e, xr_s hQ1, hsy]
                    · rw [xr_d hQ1 e]; exact hfr j a (by omega))
                · refine x_aload_n d_P_rule_138 0 rfl rfl ?_
                  refine x_getc 30 1 32 32 fl_P_7 tk_23_1 (hM.at 0 rfl) rfl rfl d_P_rule_139 ?_
                  refine x_iload_n d_P_rule_142 3 rfl rfl ?_
                  refine x_cald 32 (R 32 k) (hM.at 1 rfl) rfl ⟨by decide, rfl, by decide⟩ rfl (by omega) (hk2 32 k (by decide) (by omega)) d_P_rule_143 ?_
                  refine x_bipush d_P_rule_144 rfl ?_
                  refine x_isub d_P_rule_146 ?_
                  refine x_goto (tgt := 162) d_P_rule_147 rfl ?_
                  refine x_iast 49 (hM.at 12 rfl) rfl ⟨by decide, rfl, by decide⟩ rfl (by omega) d_P_rule_162 (fun Q2 hQ2 => ?_)
                  refine x_iinc d_P_rule_163 rfl [some (.ref ((σ 30).1)), some (vi (R 30 2)), some (vi 1), some (vi (k + 1)), none, none] rfl rfl (lr rfl) ?_
                  refine x_goto (tgt := 114) d_P_rule_166 rfl ?_
                  have hsy : rS R (k - 2) = (R 32 k) - 97 := by
                    unfold rS rSy
                    rw [show k - 2 + 2 = k by omega]
                    rw [if_pos (by omega)]
                  exact ih3 _ (by omega) (k + 1) Q2 rfl (by omega) (fun p q a b => (xr_o hQ2 a).trans (hk2 p q a b)) ((xr_o hQ2 (by decide)).trans h02) ((xr_o hQ2 (by decide)).trans h00) (fun j a b => by
                    by_cases e : j = k - 2
                    · rw [e, xr_s hQ2, hsy]
                    · rw [xr_d hQ2 e]; exact hfr j a (by omega))
          exact hl3 _ 2 R1 rfl (by omega) (fun p q a b => hkp p q b) h02 h00 (fun j a b => by omega)
        · refine x_aload_n d_P_rule_106 0 rfl rfl ?_
          refine x_iconst d_P_rule_107 ?_
          refine x_cvm 30 (As := [vi 1]) (c_P_fails (R := R1) hM 1) cs_P_86 hthis rfl rfl (lr rfl) d_P_rule_108 (lr rfl) ⟨lr rfl, lr rfl⟩ (fun z1 Q2 hQ2 => ?_)
          exact x_iret d_P_rule_111 rfl (lr rfl) (lr rfl) (⟨_, rfl, rfl, by rw [hQ2.2, xr_d rfl (by decide)]; exact h02, Or.inl ⟨Or.inl (fun z => zc_eq0.mp (hok.symm.trans (by omega : ok = 0)) ⟨z.1, fun i a b => z.2 i a (by omega)⟩), by rw [hQ2.2, xr_s rfl], fun p q a b => by rw [hQ2.2, xr_up rfl (by omega)]; exact hkp p q b⟩⟩)
      · have hzo := zc_or (rBas (R 30 2) (R 32) ∧ ∀ i, 2 ≤ i → i < k → rCls (R 32 i))
        refine x_iload_n d_P_rule_62 2 rfl rfl ?_
        refine x_if_eq (tgt := 102) d_P_rule_63 rfl (by omega) (fun c63 => ?_) (fun c63 => ?_)
        · have hzo := zc_or (rBas (R 30 2) (R 32) ∧ ∀ i, 2 ≤ i → i < k → rCls (R 32 i))
          refine x_iload_n d_P_rule_102 2 rfl rfl ?_
          refine x_if_ne (tgt := 112) d_P_rule_103 rfl (by omega) (fun c103 => ?_) (fun c103 => ?_)
          · omega
          · refine x_aload_n d_P_rule_106 0 rfl rfl ?_
            refine x_iconst d_P_rule_107 ?_
            refine x_cvm 30 (As := [vi 1]) (c_P_fails (R := R1) hM 1) cs_P_86 hthis rfl rfl (lr rfl) d_P_rule_108 (lr rfl) ⟨lr rfl, lr rfl⟩ (fun z3 Q4 hQ4 => ?_)
            exact x_iret d_P_rule_111 rfl (lr rfl) (lr rfl) (⟨_, rfl, rfl, by rw [hQ4.2, xr_d rfl (by decide)]; exact h02, Or.inl ⟨Or.inl (fun z => zc_eq0.mp (hok.symm.trans (by omega : ok = 0)) ⟨z.1, fun i a b => z.2 i a (by omega)⟩), by rw [hQ4.2, xr_s rfl], fun p q a b => by rw [hQ4.2, xr_up rfl (by omega)]; exact hkp p q b⟩⟩)
        · refine x_aload_n d_P_rule_66 0 rfl rfl ?_
          refine x_getc 30 1 32 32 fl_P_7 tk_23_1 (hM.at 0 rfl) rfl rfl d_P_rule_67 ?_
          refine x_iload_n d_P_rule_70 3 rfl rfl ?_
          refine x_cald 32 (R 32 k) (hM.at 1 rfl) rfl ⟨by decide, rfl, by decide⟩ rfl (by omega) (hkp 32 k (by omega)) d_P_rule_71 ?_
          have hc9 := hch k (by omega) (by omega)
          refine x_csi  (As := [vi (R 32 k)]) (c_P_isLetter (R := R1) (R 32 k) (by omega)) cs_P_83 rfl rfl (lr rfl) d_P_rule_72 (lr rfl) ⟨lr rfl, lr rfl⟩ ?_
          have hcs := zb_cs (97 ≤ R 32 k ∧ R 32 k ≤ 102)
          refine x_if_ne (tgt := 90) d_P_rule_75 rfl (by omega) (fun c75 => ?_) (fun c75 => ?_)
          · refine x_iconst d_P_rule_90 ?_
            refine x_goto (tgt := 95) d_P_rule_91 rfl ?_
            refine x_istore_n d_P_rule_95 2 rfl [some (.ref ((σ 30).1)), some (vi (R 30 2)), some (vi 1), some (vi k), none, none] rfl rfl (lr rfl) ?_
            refine x_iinc d_P_rule_96 rfl [some (.ref ((σ 30).1)), some (vi (R 30 2)), some (vi 1), some (vi (k + 1)), none, none] rfl rfl (lr rfl) ?_
            refine x_goto (tgt := 57) d_P_rule_99 rfl ?_
            have q := zc_eq1.mp (hok.symm.trans (by omega : ok = 1))
            exact ih _ (by omega) (k + 1) 1 R1 rfl hkp h02 h00 (by omega) ((zc_t ⟨q.1, fun i a b => by by_cases e : i = k; (rw [e]; unfold rCls; omega); exact q.2 i a (by omega)⟩).symm)
          · refine x_aload_n d_P_rule_78 0 rfl rfl ?_
            refine x_getc 30 1 32 32 fl_P_7 tk_23_1 (hM.at 0 rfl) rfl rfl d_P_rule_79 ?_
            refine x_iload_n d_P_rule_82 3 rfl rfl ?_
            refine x_cald 32 (R 32 k) (hM.at 1 rfl) rfl ⟨by decide, rfl, by decide⟩ rfl (by omega) (hkp 32 k (by omega)) d_P_rule_83 ?_
            have hc9 := hch k (by omega) (by omega)
            refine x_csi  (As := [vi (R 32 k)]) (c_P_isName (R := R1) (R 32 k) (by omega)) cs_P_79 rfl rfl (lr rfl) d_P_rule_84 (lr rfl) ⟨lr rfl, lr rfl⟩ ?_
            have hcn := zb_cs (65 ≤ R 32 k ∧ R 32 k ≤ 70)
            refine x_if_eq (tgt := 94) d_P_rule_87 rfl (by omega) (fun c87 => ?_) (fun c87 => ?_)
            · refine x_iconst d_P_rule_94 ?_
              refine x_istore_n d_P_rule_95 2 rfl [some (.ref ((σ 30).1)), some (vi (R 30 2)), some (vi 0), some (vi k), none, none] rfl rfl (lr rfl) ?_
              refine x_iinc d_P_rule_96 rfl [some (.ref ((σ 30).1)), some (vi (R 30 2)), some (vi 0), some (vi (k + 1)), none, none] rfl rfl (lr rfl) ?_
              refine x_goto (tgt := 57) d_P_rule_99 rfl ?_
              have q := zc_eq1.mp (hok.symm.trans (by omega : ok = 1))
              exact ih _ (by omega) (k + 1) 0 R1 rfl hkp h02 h00 (by omega) ((zc_f (fun z => by have := z.2 k (by omega) (by omega); unfold rCls at this; omega)).symm)
            · refine x_iconst d_P_rule_90 ?_
              refine x_goto (tgt := 95) d_P_rule_91 rfl ?_
              refine x_istore_n d_P_rule_95 2 rfl [some (.ref ((σ 30).1)), some (vi (R 30 2)), some (vi 1), some (vi k), none, none] rfl rfl (lr rfl) ?_
              refine x_iinc d_P_rule_96 rfl [some (.ref ((σ 30).1)), some (vi (R 30 2)), some (vi 1), some (vi (k + 1)), none, none] rfl rfl (lr rfl) ?_
              refine x_goto (tgt := 57) d_P_rule_99 rfl ?_
              have q := zc_eq1.mp (hok.symm.trans (by omega : ok = 1))
              exact ih _ (by omega) (k + 1) 1 R1 rfl hkp h02 h00 (by omega) ((zc_t ⟨q.1, fun i a b => by by_cases e : i = k; (rw [e]; unfold rCls; omega); exact q.2 i a (by omega)⟩).symm)
  refine x_aload_n d_P_rule_0 0 rfl rfl ?_
  refine x_iconst d_P_rule_1 ?_
  refine x_puti 30 0 0 fp_P_66 tk_23_0 (hM.at 0 rfl) rfl rfl d_P_rule_2 (fun Q1 hQ1 => ?_)
  refine x_aload_n d_P_rule_5 0 rfl rfl ?_
  refine x_geti 30 2 2 (R 30 2) fl_P_70 tk_23_2 (hM.at 0 rfl) rfl rfl (xr_d hQ1 (by decide)) d_P_rule_6 ?_
  refine x_istore_n d_P_rule_9 1 rfl [some (.ref ((σ 30).1)), some (vi (R 30 2)), none, none, none, none] rfl rfl (lr rfl) ?_
  refine x_aload_n d_P_rule_10 0 rfl rfl ?_
  refine x_iconst d_P_rule_11 ?_
  refine x_puti 30 2 2 fp_P_70 tk_23_2 (hM.at 0 rfl) rfl rfl d_P_rule_12 (fun Q2 hQ2 => ?_)
  refine x_iload_n d_P_rule_15 1 rfl rfl ?_
  refine x_iconst d_P_rule_16 ?_
  refine x_icmp_lt (tgt := 53) d_P_rule_17 rfl (by omega) (by omega) (fun c17 => ?_) (fun c17 => ?_)
  · refine x_iconst d_P_rule_53 ?_
    refine x_istore_n d_P_rule_54 2 rfl [some (.ref ((σ 30).1)), some (vi (R 30 2)), some (vi 0), none, none, none] rfl rfl (lr rfl) ?_
    refine x_iconst d_P_rule_55 ?_
    refine x_istore_n d_P_rule_56 3 rfl [some (.ref ((σ 30).1)), some (vi (R 30 2)), some (vi 0), some (vi 2), none, none] rfl rfl (lr rfl) ?_
    have hkp : ∀ p q, ¬ (p = 30 ∧ (q = 0 ∨ q = 2)) → Q2 p q = R p q := fun p q a => (xr_up hQ2 (by omega)).trans (xr_up hQ1 (by omega))
    have h02 : Q2 30 2 = 0 := xr_s hQ2
    have h00 : Q2 30 0 = 0 := (xr_d hQ2 (by decide)).trans (xr_s hQ1)
    exact hl _ 2 0 Q2 rfl hkp h02 h00 (by omega) ((zc_f (fun z => by have h1 := z.1.1; have h2 := z.1.2; omega)).symm)
  · refine x_iload_n d_P_rule_20 1 rfl rfl ?_
    refine x_bipush d_P_rule_21 rfl ?_
    refine x_icmp_gt (tgt := 53) d_P_rule_23 rfl (by omega) (by omega) (fun c23 => ?_) (fun c23 => ?_)
    · refine x_iconst d_P_rule_53 ?_
      refine x_istore_n d_P_rule_54 2 rfl [some (.ref ((σ 30).1)), some (vi (R 30 2)), some (vi 0), none, none, none] rfl rfl (lr rfl) ?_
      refine x_iconst d_P_rule_55 ?_
      refine x_istore_n d_P_rule_56 3 rfl [some (.ref ((σ 30).1)), some (vi (R 30 2)), some (vi 0), some (vi 2), none, none] rfl rfl (lr rfl) ?_
      have hkp : ∀ p q, ¬ (p = 30 ∧ (q = 0 ∨ q = 2)) → Q2 p q = R p q := fun p q a => (xr_up hQ2 (by omega)).trans (xr_up hQ1 (by omega))
      have h02 : Q2 30 2 = 0 := xr_s hQ2
      have h00 : Q2 30 0 = 0 := (xr_d hQ2 (by decide)).trans (xr_s hQ1)
      exact hl _ 2 0 Q2 rfl hkp h02 h00 (by omega) ((zc_f (fun z => by have h1 := z.1.1; have h2 := z.1.2; omega)).symm)
    · refine x_aload_n d_P_rule_26 0 rfl rfl ?_
      refine x_getc 30 1 32 32 fl_P_7 tk_23_1 (hM.at 0 rfl) rfl rfl d_P_rule_27 ?_
      refine x_iconst d_P_rule_30 ?_
      refine x_cald 32 (R 32 0) (hM.at 1 rfl) rfl ⟨by decide, rfl, by decide⟩ rfl (by omega) ((xr_o hQ2 (by decide)).trans (xr_o hQ1 (by decide))) d_P_rule_31 ?_
      have hc9 := hch 0 (by omega) (by omega)
      refine x_csi  (As := [vi (R 32 0)]) (c_P_isName (R := Q2) (R 32 0) (by omega)) cs_P_79 rfl rfl (lr rfl) d_P_rule_32 (lr rfl) ⟨lr rfl, lr rfl⟩ ?_
      have hcn := zb_cs (65 ≤ R 32 0 ∧ R 32 0 ≤ 70)
      refine x_if_eq (tgt := 53) d_P_rule_35 rfl (by omega) (fun c35 => ?_) (fun c35 => ?_)
      · refine x_iconst d_P_rule_53 ?_
        refine x_istore_n d_P_rule_54 2 rfl [some (.ref ((σ 30).1)), some (vi (R 30 2)), some (vi 0), none, none, none] rfl rfl (lr rfl) ?_
        refine x_iconst d_P_rule_55 ?_
        refine x_istore_n d_P_rule_56 3 rfl [some (.ref ((σ 30).1)), some (vi (R 30 2)), some (vi 0), some (vi 2), none, none] rfl rfl (lr rfl) ?_
        have hkp : ∀ p q, ¬ (p = 30 ∧ (q = 0 ∨ q = 2)) → Q2 p q = R p q := fun p q a => (xr_up hQ2 (by omega)).trans (xr_up hQ1 (by omega))
        have h02 : Q2 30 2 = 0 := xr_s hQ2
        have h00 : Q2 30 0 = 0 := (xr_d hQ2 (by decide)).trans (xr_s hQ1)
        exact hl _ 2 0 Q2 rfl hkp h02 h00 (by omega) ((zc_f (fun z => by have h1 := z.1.1; have h2 := z.1.2; omega)).symm)
      · refine x_aload_n d_P_rule_38 0 rfl rfl ?_
        refine x_getc 30 1 32 32 fl_P_7 tk_23_1 (hM.at 0 rfl) rfl rfl d_P_rule_39 ?_
        refine x_iconst d_P_rule_42 ?_
        have hc1 := hch 1 (by omega) (by omega)
        refine x_cald 32 (R 32 1) (hM.at 1 rfl) rfl ⟨by decide, rfl, by decide⟩ rfl (by omega) ((xr_o hQ2 (by decide)).trans (xr_o hQ1 (by decide))) d_P_rule_43 ?_
        refine x_bipush d_P_rule_44 rfl ?_
        refine x_icmp_ne (tgt := 53) d_P_rule_46 rfl (by omega) (by omega) (fun c46 => ?_) (fun c46 => ?_)
        · refine x_iconst d_P_rule_53 ?_
          refine x_istore_n d_P_rule_54 2 rfl [some (.ref ((σ 30).1)), some (vi (R 30 2)), some (vi 0), none, none, none] rfl rfl (lr rfl) ?_
          refine x_iconst d_P_rule_55 ?_
          refine x_istore_n d_P_rule_56 3 rfl [some (.ref ((σ 30).1)), some (vi (R 30 2)), some (vi 0), some (vi 2), none, none] rfl rfl (lr rfl) ?_
          have hkp : ∀ p q, ¬ (p = 30 ∧ (q = 0 ∨ q = 2)) → Q2 p q = R p q := fun p q a => (xr_up hQ2 (by omega)).trans (xr_up hQ1 (by omega))
          have h02 : Q2 30 2 = 0 := xr_s hQ2
          have h00 : Q2 30 0 = 0 := (xr_d hQ2 (by decide)).trans (xr_s hQ1)
          exact hl _ 2 0 Q2 rfl hkp h02 h00 (by omega) ((zc_f (fun z => by have h1 := z.1.1; have h2 := z.1.2; omega)).symm)
        · refine x_iconst d_P_rule_49 ?_
          refine x_goto (tgt := 54) d_P_rule_50 rfl ?_
          refine x_istore_n d_P_rule_54 2 rfl [some (.ref ((σ 30).1)), some (vi (R 30 2)), some (vi 1), none, none, none] rfl rfl (lr rfl) ?_
          refine x_iconst d_P_rule_55 ?_
          refine x_istore_n d_P_rule_56 3 rfl [some (.ref ((σ 30).1)), some (vi (R 30 2)), some (vi 1), some (vi 2), none, none] rfl rfl (lr rfl) ?_
          have hkp : ∀ p q, ¬ (p = 30 ∧ (q = 0 ∨ q = 2)) → Q2 p q = R p q := fun p q a => (xr_up hQ2 (by omega)).trans (xr_up hQ1 (by omega))
          have h02 : Q2 30 2 = 0 := xr_s hQ2
          have h00 : Q2 30 0 = 0 := (xr_d hQ2 (by decide)).trans (xr_s hQ1)
          exact hl _ 2 1 Q2 rfl hkp h02 h00 (by omega) ((zc_t ⟨⟨by omega, by omega, by omega⟩, fun i a b => by omega⟩).symm)
