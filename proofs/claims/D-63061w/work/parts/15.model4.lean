/-! the model: prepare (walk printed by gen/model4.py) -/
/-- used[r] is being told: places before k -/
def mU (R R2 R3 : xR) (r k : Int) : Prop := mK R R3 ∧ (∀ b, b ≠ r → R3 38 b = R2 38 b) ∧ (∀ b, R3 39 b = R2 39 b) ∧ (∀ a b, (a = 40 ∨ a = 41) → R3 a b = R2 a b) ∧ R3 38 r = zc (∀ j, 4 * r ≤ j → j < k → mC R (R2 39) j)
theorem mU.zero {R R2 R3 : xR} {r : Int} (h : mK R R2) (e : R3 = xup R2 38 r 1) : mU R R2 R3 r (4 * r) := ⟨h.up (by decide) e, fun b hb => xr_d e hb, fun b => xr_o e (by decide), fun a b hab => xr_o e (by omega), by rw [xr_s e]; exact zca_e (Int.le_refl _)⟩
theorem mU.step {R R2 R3 R4 : xR} {r k v : Int} (h : mU R R2 R3 r k) (hk : 4 * r ≤ k) (e : R4 = xup R3 38 r v) (hv : (v = 1 ∧ R3 38 r ≠ 0 ∧ mC R (R2 39) k) ∨ (v = 0 ∧ (R3 38 r = 0 ∨ ¬ mC R (R2 39) k))) : mU R R2 R4 r (k + 1) := by
  obtain ⟨h1, h2, h3, h4, h5⟩ := h
  refine ⟨h1.up (by decide) e, fun b hb => (xr_d e hb).trans (h2 b hb), fun b => (xr_o e (by decide)).trans (h3 b), fun a b hab => (xr_o e (by omega)).trans (h4 a b hab), ?_⟩
  rw [xr_s e]
  rcases hv with ⟨v1, v2, v3⟩ | ⟨v1, v2 | v2⟩
  · rw [v1]; exact zca_t h5 v2 v3
  · rw [v1]; exact zca_0 h5 v2
  · rw [v1]; exact zca_f hk v2
theorem mU.b01 {R R2 R3 : xR} {r k : Int} (h : mU R R2 R3 r k) : R3 38 r = 0 ∨ R3 38 r = 1 := by rw [h.2.2.2.2]; exact zc_or _
/-- emptied names before k -/
def mZ (R R1 : xR) (k : Int) : Prop := mK R R1 ∧ ∀ x, 0 ≤ x → x < k → R1 39 x = 0 ∧ R1 40 x = 0 ∧ R1 41 x = 0
theorem mZ.step {R R1 R2 R3 R4 : xR} {k : Int} (h : mZ R R1 k) (h2 : R2 = xup R1 39 k 0) (h3 : R3 = xup R2 40 k 0) (h4 : R4 = xup R3 41 k 0) : mZ R R4 (k + 1) := by
  refine ⟨((h.1.up (by decide) h2).up (by decide) h3).up (by decide) h4, fun x a b => ?_⟩
  by_cases e : x = k
  · subst e
    rw [xr_o h4 (by decide), xr_o h3 (by decide), xr_s h2, xr_o h4 (by decide), xr_s h3, xr_s h4]
    exact ⟨rfl, rfl, rfl⟩
  · rw [xr_o h4 (by decide), xr_o h3 (by decide), xr_d h2 e, xr_o h4 (by decide), xr_d h3 e, xr_o h2 (by decide), xr_d h4 e, xr_o h3 (by decide), xr_o h2 (by decide)]
    exact h.2 x a (by omega)
set_option maxHeartbeats 4000000 in
set_option maxRecDepth 100000 in
theorem c_P_prepare {σ : xS} {R : xR} (hM : xsh σ mshape) (hg : mG0 R) : Ct m_P_prepare 2 0 0 [.ref (σ 30).1] σ R (Zv σ (fun R1 => mPr R1 ∧ mK R R1 ∧ ∀ x, 0 ≤ x → x ≤ 5 → R1 39 x = zc (gCm (gM R) x))) := by
  refine Ct.of [some (.ref ((σ 30).1)), none, none, none, none, none] rfl (by decide +kernel) (lr rfl) (fun X => ?_)
  have hthis := thisM hM
  have hlw2 : ∀ (m : Nat) (more1 : Int) (R1 : xR), 2 * mW2 R1 + more1.toNat = m → (more1 = 0 ∨ more1 = 1) → (mA2 R R1) → (more1 = 0 → mPr R1 ∧ mK R R1 ∧ ∀ x, 0 ≤ x → x ≤ 5 → R1 39 x = zc (gCm (gM R) x)) → V X m_P_prepare (2, 0, 0, Zv σ (fun R1 => mPr R1 ∧ mK R R1 ∧ ∀ x, 0 ≤ x → x ≤ 5 → R1 39 x = zc (gCm (gM R) x))) σ R1 0 0 215 [some (.ref ((σ 30).1)), some (vi more1), none, none, none, none] [] := by
    intro m
    induction m using Nat.strongRecOn with
    | _ m ih =>
      intro more1 R1 hm hm1 ha2 hdone
      refine x_iload_n d_P_prepare_215 1 rfl rfl ?_
      refine x_if_eq (tgt := 381) d_P_prepare_216 rfl (by omega) (fun c216 => ?_) (fun c216 => ?_)
      · exact x_vret d_P_prepare_381 rfl (lr rfl) (lr rfl) (⟨rfl, rfl, hdone (by omega)⟩)
      · refine x_iconst d_P_prepare_219 ?_
        refine x_istore_n d_P_prepare_220 1 rfl [some (.ref ((σ 30).1)), some (vi 0), none, none, none, none] rfl rfl (lr rfl) ?_
        refine x_iconst d_P_prepare_221 ?_
        refine x_istore_n d_P_prepare_222 2 rfl [some (.ref ((σ 30).1)), some (vi 0), some (vi 0), none, none, none] rfl rfl (lr rfl) ?_
        have em : more1 = 1 := by omega
        subst em
        have hn := hg.1
        have hlr : ∀ (m : Nat) (r : Int) (more2 : Int) (R2 : xR), (10 - r).toNat = m → (0 ≤ r ∧ r ≤ R 30 3) → (more2 = 0 ∨ more2 = 1) → (mP2 R R1 R2 r more2) → V X m_P_prepare (2, 0, 0, Zv σ (fun R1 => mPr R1 ∧ mK R R1 ∧ ∀ x, 0 ≤ x → x ≤ 5 → R1 39 x = zc (gCm (gM R) x))) σ R2 0 0 223 [some (.ref ((σ 30).1)), some (vi more2), some (vi r), none, none, none] [] := by
          intro m
          induction m using Nat.strongRecOn with
          | _ m ihr =>
            intro r more2 R2 hmr hr1 hmo2 hpa2
            refine x_iload_n d_P_prepare_223 2 rfl rfl ?_
            refine x_aload_n d_P_prepare_224 0 rfl rfl ?_
            refine x_geti 30 3 3 (R 30 3) fl_P_90 tk_23_3 (hM.at 0 rfl) rfl rfl (hpa2.1.1 30 3 (by decide)) d_P_prepare_225 ?_
            refine x_icmp_ge (tgt := 378) d_P_prepare_228 rfl (by omega) (by omega) (fun c228 => ?_) (fun c228 => ?_)
            · refine x_goto (tgt := 215) d_P_prepare_378 rfl ?_
              refine V.forget 2 [some (.ref ((σ 30).1)), some (vi more2), none, none, none, none] rfl ?_
              have er : r = R 30 3 := by omega
              rw [er] at hpa2
              exact ih _ (by have := hpa2.meas; omega) more2 R2 rfl hmo2 hpa2.1 (fun e0 => by rw [e0] at hpa2; exact hpa2.done hg)
            · have e38 := hpa2.1.2.1 r (by omega) (by omega)
              have g38 : R2 38 r = 0 ∨ R2 38 r = 1 := by rw [e38]; exact zc_or _
              have hok := hpa2.1.ok hg (r := r) (by omega) (by omega)
              have gl := (hg.2.1 r (by omega) (by omega)).1
              have g40 := hok.2.2.2 (R 35 r) gl.1 gl.2
              have g41 := g40.2.1
              refine x_aload_n d_P_prepare_231 0 rfl rfl ?_
              refine x_getc 30 7 38 38 fl_P_23 tk_23_7 (hM.at 0 rfl) rfl rfl d_P_prepare_232 ?_
              refine x_iload_n d_P_prepare_235 2 rfl rfl ?_
              refine x_zald 38 (R2 38 r) (hM.at 5 rfl) rfl ⟨by decide, rfl, by decide⟩ rfl (by omega) rfl d_P_prepare_236 ?_
              refine x_if_eq (tgt := 250) d_P_prepare_237 rfl (by omega) (fun c237 => ?_) (fun c237 => ?_)
              · refine x_iconst d_P_prepare_250 ?_
                refine x_istore_n d_P_prepare_251 3 rfl [some (.ref ((σ 30).1)), some (vi more2), some (vi r), some (vi 0), none, none] rfl rfl (lr rfl) ?_
                have hset : (R2 38 r = 0 ∧ (0 : Int) = 0) ∨ (R2 38 r ≠ 0 ∧ (0 : Int) = bgs R2 0 (4 * r + R2 36 r - (4 * r + 0)).toNat (4 * r + 0)) := Or.inl ⟨c237, rfl⟩
                have hset0 : (0 : Int) ≤ 0 := Int.le_refl _
                have hs77 : s7 0 := ⟨by omega, by omega⟩
                refine x_aload_n d_P_prepare_252 0 rfl rfl ?_
                refine x_getc 30 7 38 38 fl_P_23 tk_23_7 (hM.at 0 rfl) rfl rfl d_P_prepare_253 ?_
                refine x_iload_n d_P_prepare_256 2 rfl rfl ?_
                refine x_zald 38 (R2 38 r) (hM.at 5 rfl) rfl ⟨by decide, rfl, by decide⟩ rfl (by omega) rfl d_P_prepare_257 ?_
                refine x_if_eq (tgt := 274) d_P_prepare_258 rfl (by omega) (fun c258 => ?_) (fun c258 => ?_)
                · refine x_iconst d_P_prepare_274 ?_
                  refine x_istore d_P_prepare_275 [some (.ref ((σ 30).1)), some (vi more2), some (vi r), some (vi 0), some (vi 0), none] rfl rfl (lr rfl) ?_
                  have hnone : ((0 : Int) = 0 ∧ (R2 38 r = 0 ∨ ¬ (∀ j, 4 * r + 0 ≤ j → j < 4 * r + R2 36 r → mE R2 j))) ∨ ((0 : Int) = 1 ∧ R2 38 r ≠ 0 ∧ ∀ j, 4 * r + 0 ≤ j → j < 4 * r + R2 36 r → mE R2 j) := Or.inl ⟨rfl, Or.inl c237⟩
                  refine x_aload_n d_P_prepare_277 0 rfl rfl ?_
                  refine x_getc 30 4 35 35 fl_P_13 tk_23_4 (hM.at 0 rfl) rfl rfl d_P_prepare_278 ?_
                  refine x_iload_n d_P_prepare_281 2 rfl rfl ?_
                  refine x_iald 35 (R 35 r) (hM.at 2 rfl) rfl ⟨by decide, rfl, by decide⟩ rfl (by omega) (hpa2.1.1 35 r (by decide)) d_P_prepare_282 ?_
                  refine x_istore d_P_prepare_283 [some (.ref ((σ 30).1)), some (vi more2), some (vi r), some (vi 0), some (vi 0), some (vi (R 35 r))] rfl rfl (lr rfl) ?_
                  refine x_iload_n d_P_prepare_285 1 rfl rfl ?_
                  refine x_if_ne (tgt := 323) d_P_prepare_286 rfl (by omega) (fun c286 => ?_) (fun c286 => ?_)
                  · refine x_iconst d_P_prepare_323 ?_
                    refine x_goto (tgt := 328) d_P_prepare_324 rfl ?_
                    refine x_istore_n d_P_prepare_328 1 rfl [some (.ref ((σ 30).1)), some (vi 1), some (vi r), some (vi 0), some (vi 0), some (vi (R 35 r))] rfl rfl (lr rfl) ?_
                    refine x_aload_n d_P_prepare_329 0 rfl rfl ?_
                    refine x_getc 30 10 41 41 fl_P_33 tk_23_10 (hM.at 0 rfl) rfl rfl d_P_prepare_330 ?_
                    refine x_iload d_P_prepare_333 rfl ?_
                    refine x_aload_n d_P_prepare_335 0 rfl rfl ?_
                    refine x_getc 30 10 41 41 fl_P_33 tk_23_10 (hM.at 0 rfl) rfl rfl d_P_prepare_336 ?_
                    refine x_iload d_P_prepare_339 rfl ?_
                    refine x_iald 41 (R2 41 (R 35 r)) (hM.at 8 rfl) rfl ⟨by decide, rfl, by decide⟩ rfl (by omega) rfl d_P_prepare_341 ?_
                    refine x_iload_n d_P_prepare_342 3 rfl rfl ?_
                    refine x_ior d_P_prepare_343 (ior (R2 41 (R 35 r)) 0) (iI_ior g41 hset0) ?_
                    refine x_iast 41 (hM.at 8 rfl) rfl ⟨by decide, rfl, by decide⟩ rfl (by omega) d_P_prepare_344 (fun Q1 hQ1 => ?_)
                    refine x_aload_n d_P_prepare_345 0 rfl rfl ?_
                    refine x_getc 30 9 40 40 fl_P_30 tk_23_9 (hM.at 0 rfl) rfl rfl d_P_prepare_346 ?_
                    refine x_iload d_P_prepare_349 rfl ?_
                    refine x_aload_n d_P_prepare_351 0 rfl rfl ?_
                    refine x_getc 30 9 40 40 fl_P_30 tk_23_9 (hM.at 0 rfl) rfl rfl d_P_prepare_352 ?_
                    refine x_iload d_P_prepare_355 rfl ?_
                    refine x_zald 40 (R2 40 (R 35 r)) (hM.at 7 rfl) rfl ⟨by decide, rfl, by decide⟩ rfl (by omega) (xr_o hQ1 (by decide)) d_P_prepare_357 ?_
                    refine x_if_ne (tgt := 366) d_P_prepare_358 rfl (by omega) (fun c358 => ?_) (fun c358 => ?_)
                    · refine x_iconst d_P_prepare_366 ?_
                      refine x_goto (tgt := 371) d_P_prepare_367 rfl ?_
                      refine x_zast 40 (hM.at 7 rfl) rfl ⟨by decide, rfl, by decide⟩ rfl (by omega) (narz (by omega)) d_P_prepare_371 (fun Q2 hQ2 => ?_)
                      refine x_iinc d_P_prepare_372 rfl [some (.ref ((σ 30).1)), some (vi 1), some (vi (r + 1)), some (vi 0), some (vi 0), some (vi (R 35 r))] rfl rfl (lr rfl) ?_
                      refine x_goto (tgt := 223) d_P_prepare_375 rfl ?_
                      refine V.forget 3 [some (.ref ((σ 30).1)), some (vi 1), some (vi (r + 1)), none, some (vi 0), some (vi (R 35 r))] rfl ?_
                      refine V.forget 4 [some (.ref ((σ 30).1)), some (vi 1), some (vi (r + 1)), none, none, some (vi (R 35 r))] rfl ?_
                      refine V.forget 5 [some (.ref ((σ 30).1)), some (vi 1), some (vi (r + 1)), none, none, none] rfl ?_
                      have hstep := mP2.step (more' := 1) hg hpa2 ⟨by omega, by omega⟩ hset hnone hQ1 hQ2 (by first | exact Or.inl ⟨rfl, by omega, by omega⟩ | exact Or.inr ⟨rfl, Or.inl (by omega)⟩ | exact Or.inr ⟨rfl, Or.inr (by omega)⟩) (by first | exact Or.inl ⟨rfl, by omega, by omega, Or.inl (by omega)⟩ | exact Or.inl ⟨rfl, by omega, by omega, Or.inr (by omega)⟩ | exact Or.inr ⟨rfl, Or.inl (by omega)⟩ | exact Or.inr ⟨rfl, Or.inr (Or.inl (by omega))⟩ | exact Or.inr ⟨rfl, Or.inr (Or.inr ⟨by omega, by omega⟩)⟩)
                      exact ihr _ (by omega) (r + 1) 1 Q2 rfl (by omega) hstep.m01 hstep
                    · refine x_iload d_P_prepare_361 rfl ?_
                      refine x_if_eq (tgt := 370) d_P_prepare_363 rfl (by omega) (fun c363 => ?_) (fun c363 => ?_)
                      · refine x_iconst d_P_prepare_370 ?_
                        refine x_zast 40 (hM.at 7 rfl) rfl ⟨by decide, rfl, by decide⟩ rfl (by omega) (narz (by omega)) d_P_prepare_371 (fun Q3 hQ3 => ?_)
                        refine x_iinc d_P_prepare_372 rfl [some (.ref ((σ 30).1)), some (vi 1), some (vi (r + 1)), some (vi 0), some (vi 0), some (vi (R 35 r))] rfl rfl (lr rfl) ?_
                        refine x_goto (tgt := 223) d_P_prepare_375 rfl ?_
                        refine V.forget 3 [some (.ref ((σ 30).1)), some (vi 1), some (vi (r + 1)), none, some (vi 0), some (vi (R 35 r))] rfl ?_
                        refine V.forget 4 [some (.ref ((σ 30).1)), some (vi 1), some (vi (r + 1)), none, none, some (vi (R 35 r))] rfl ?_
                        refine V.forget 5 [some (.ref ((σ 30).1)), some (vi 1), some (vi (r + 1)), none, none, none] rfl ?_
                        have hstep := mP2.step (more' := 1) hg hpa2 ⟨by omega, by omega⟩ hset hnone hQ1 hQ3 (by first | exact Or.inl ⟨rfl, by omega, by omega⟩ | exact Or.inr ⟨rfl, Or.inl (by omega)⟩ | exact Or.inr ⟨rfl, Or.inr (by omega)⟩) (by first | exact Or.inl ⟨rfl, by omega, by omega, Or.inl (by omega)⟩ | exact Or.inl ⟨rfl, by omega, by omega, Or.inr (by omega)⟩ | exact Or.inr ⟨rfl, Or.inl (by omega)⟩ | exact Or.inr ⟨rfl, Or.inr (Or.inl (by omega))⟩ | exact Or.inr ⟨rfl, Or.inr (Or.inr ⟨by omega, by omega⟩)⟩)
                        exact ihr _ (by omega) (r + 1) 1 Q3 rfl (by omega) hstep.m01 hstep
                      · refine x_iconst d_P_prepare_366 ?_
                        refine x_goto (tgt := 371) d_P_prepare_367 rfl ?_
                        refine x_zast 40 (hM.at 7 rfl) rfl ⟨by decide, rfl, by decide⟩ rfl (by omega) (narz (by omega)) d_P_prepare_371 (fun Q4 hQ4 => ?_)
                        refine x_iinc d_P_prepare_372 rfl [some (.ref ((σ 30).1)), some (vi 1), some (vi (r + 1)), some (vi 0), some (vi 0), some (vi (R 35 r))] rfl rfl (lr rfl) ?_
                        refine x_goto (tgt := 223) d_P_prepare_375 rfl ?_
                        refine V.forget 3 [some (.ref ((σ 30).1)), some (vi 1), some (vi (r + 1)), none, some (vi 0), some (vi (R 35 r))] rfl ?_
                        refine V.forget 4 [some (.ref ((σ 30).1)), some (vi 1), some (vi (r + 1)), none, none, some (vi (R 35 r))] rfl ?_
                        refine V.forget 5 [some (.ref ((σ 30).1)), some (vi 1), some (vi (r + 1)), none, none, none] rfl ?_
                        have hstep := mP2.step (more' := 1) hg hpa2 ⟨by omega, by omega⟩ hset hnone hQ1 hQ4 (by first | exact Or.inl ⟨rfl, by omega, by omega⟩ | exact Or.inr ⟨rfl, Or.inl (by omega)⟩ | exact Or.inr ⟨rfl, Or.inr (by omega)⟩) (by first | exact Or.inl ⟨rfl, by omega, by omega, Or.inl (by omega)⟩ | exact Or.inl ⟨rfl, by omega, by omega, Or.inr (by omega)⟩ | exact Or.inr ⟨rfl, Or.inl (by omega)⟩ | exact Or.inr ⟨rfl, Or.inr (Or.inl (by omega))⟩ | exact Or.inr ⟨rfl, Or.inr (Or.inr ⟨by omega, by omega⟩)⟩)
                        exact ihr _ (by omega) (r + 1) 1 Q4 rfl (by omega) hstep.m01 hstep
                  · refine x_iload_n d_P_prepare_289 3 rfl rfl ?_
                    refine x_aload_n d_P_prepare_290 0 rfl rfl ?_
                    refine x_getc 30 10 41 41 fl_P_33 tk_23_10 (hM.at 0 rfl) rfl rfl d_P_prepare_291 ?_
                    refine x_iload d_P_prepare_294 rfl ?_
                    refine x_iald 41 (R2 41 (R 35 r)) (hM.at 8 rfl) rfl ⟨by decide, rfl, by decide⟩ rfl (by omega) rfl d_P_prepare_296 ?_
                    refine x_ior d_P_prepare_297 (ior 0 (R2 41 (R 35 r))) (iI_ior hset0 g41) ?_
                    refine x_aload_n d_P_prepare_298 0 rfl rfl ?_
                    refine x_getc 30 10 41 41 fl_P_33 tk_23_10 (hM.at 0 rfl) rfl rfl d_P_prepare_299 ?_
                    refine x_iload d_P_prepare_302 rfl ?_
                    refine x_iald 41 (R2 41 (R 35 r)) (hM.at 8 rfl) rfl ⟨by decide, rfl, by decide⟩ rfl (by omega) rfl d_P_prepare_304 ?_
                    refine x_icmp_ne (tgt := 323) d_P_prepare_305 rfl (by have q := ior_s7 hs77 g40.2; have := q.1; have := q.2; omega) (by have := g40.2.2; omega) (fun c305 => ?_) (fun c305 => ?_)
                    · refine x_iconst d_P_prepare_323 ?_
                      refine x_goto (tgt := 328) d_P_prepare_324 rfl ?_
                      refine x_istore_n d_P_prepare_328 1 rfl [some (.ref ((σ 30).1)), some (vi 1), some (vi r), some (vi 0), some (vi 0), some (vi (R 35 r))] rfl rfl (lr rfl) ?_
                      refine x_aload_n d_P_prepare_329 0 rfl rfl ?_
                      refine x_getc 30 10 41 41 fl_P_33 tk_23_10 (hM.at 0 rfl) rfl rfl d_P_prepare_330 ?_
                      refine x_iload d_P_prepare_333 rfl ?_
                      refine x_aload_n d_P_prepare_335 0 rfl rfl ?_
                      refine x_getc 30 10 41 41 fl_P_33 tk_23_10 (hM.at 0 rfl) rfl rfl d_P_prepare_336 ?_
                      refine x_iload d_P_prepare_339 rfl ?_
                      refine x_iald 41 (R2 41 (R 35 r)) (hM.at 8 rfl) rfl ⟨by decide, rfl, by decide⟩ rfl (by omega) rfl d_P_prepare_341 ?_
                      refine x_iload_n d_P_prepare_342 3 rfl rfl ?_
                      refine x_ior d_P_prepare_343 (ior (R2 41 (R 35 r)) 0) (iI_ior g41 hset0) ?_
                      refine x_iast 41 (hM.at 8 rfl) rfl ⟨by decide, rfl, by decide⟩ rfl (by omega) d_P_prepare_344 (fun Q5 hQ5 => ?_)
                      refine x_aload_n d_P_prepare_345 0 rfl rfl ?_
                      refine x_getc 30 9 40 40 fl_P_30 tk_23_9 (hM.at 0 rfl) rfl rfl d_P_prepare_346 ?_
                      refine x_iload d_P_prepare_349 rfl ?_
                      refine x_aload_n d_P_prepare_351 0 rfl rfl ?_
                      refine x_getc 30 9 40 40 fl_P_30 tk_23_9 (hM.at 0 rfl) rfl rfl d_P_prepare_352 ?_
                      refine x_iload d_P_prepare_355 rfl ?_
                      refine x_zald 40 (R2 40 (R 35 r)) (hM.at 7 rfl) rfl ⟨by decide, rfl, by decide⟩ rfl (by omega) (xr_o hQ5 (by decide)) d_P_prepare_357 ?_
                      refine x_if_ne (tgt := 366) d_P_prepare_358 rfl (by omega) (fun c358 => ?_) (fun c358 => ?_)
                      · refine x_iconst d_P_prepare_366 ?_
                        refine x_goto (tgt := 371) d_P_prepare_367 rfl ?_
                        refine x_zast 40 (hM.at 7 rfl) rfl ⟨by decide, rfl, by decide⟩ rfl (by omega) (narz (by omega)) d_P_prepare_371 (fun Q6 hQ6 => ?_)
                        refine x_iinc d_P_prepare_372 rfl [some (.ref ((σ 30).1)), some (vi 1), some (vi (r + 1)), some (vi 0), some (vi 0), some (vi (R 35 r))] rfl rfl (lr rfl) ?_
                        refine x_goto (tgt := 223) d_P_prepare_375 rfl ?_
                        refine V.forget 3 [some (.ref ((σ 30).1)), some (vi 1), some (vi (r + 1)), none, some (vi 0), some (vi (R 35 r))] rfl ?_
                        refine V.forget 4 [some (.ref ((σ 30).1)), some (vi 1), some (vi (r + 1)), none, none, some (vi (R 35 r))] rfl ?_
                        refine V.forget 5 [some (.ref ((σ 30).1)), some (vi 1), some (vi (r + 1)), none, none, none] rfl ?_
                        have hstep := mP2.step (more' := 1) hg hpa2 ⟨by omega, by omega⟩ hset hnone hQ5 hQ6 (by first | exact Or.inl ⟨rfl, by omega, by omega⟩ | exact Or.inr ⟨rfl, Or.inl (by omega)⟩ | exact Or.inr ⟨rfl, Or.inr (by omega)⟩) (by first | exact Or.inl ⟨rfl, by omega, by omega, Or.inl (by omega)⟩ | exact Or.inl ⟨rfl, by omega, by omega, Or.inr (by omega)⟩ | exact Or.inr ⟨rfl, Or.inl (by omega)⟩ | exact Or.inr ⟨rfl, Or.inr (Or.inl (by omega))⟩ | exact Or.inr ⟨rfl, Or.inr (Or.inr ⟨by omega, by omega⟩)⟩)
                        exact ihr _ (by omega) (r + 1) 1 Q6 rfl (by omega) hstep.m01 hstep
                      · refine x_iload d_P_prepare_361 rfl ?_
                        refine x_if_eq (tgt := 370) d_P_prepare_363 rfl (by omega) (fun c363 => ?_) (fun c363 => ?_)
                        · refine x_iconst d_P_prepare_370 ?_
                          refine x_zast 40 (hM.at 7 rfl) rfl ⟨by decide, rfl, by decide⟩ rfl (by omega) (narz (by omega)) d_P_prepare_371 (fun Q7 hQ7 => ?_)
                          refine x_iinc d_P_prepare_372 rfl [some (.ref ((σ 30).1)), some (vi 1), some (vi (r + 1)), some (vi 0), some (vi 0), some (vi (R 35 r))] rfl rfl (lr rfl) ?_
                          refine x_goto (tgt := 223) d_P_prepare_375 rfl ?_
                          refine V.forget 3 [some (.ref ((σ 30).1)), some (vi 1), some (vi (r + 1)), none, some (vi 0), some (vi (R 35 r))] rfl ?_
                          refine V.forget 4 [some (.ref ((σ 30).1)), some (vi 1), some (vi (r + 1)), none, none, some (vi (R 35 r))] rfl ?_
                          refine V.forget 5 [some (.ref ((σ 30).1)), some (vi 1), some (vi (r + 1)), none, none, none] rfl ?_
                          have hstep := mP2.step (more' := 1) hg hpa2 ⟨by omega, by omega⟩ hset hnone hQ5 hQ7 (by first | exact Or.inl ⟨rfl, by omega, by omega⟩ | exact Or.inr ⟨rfl, Or.inl (by omega)⟩ | exact Or.inr ⟨rfl, Or.inr (by omega)⟩) (by first | exact Or.inl ⟨rfl, by omega, by omega, Or.inl (by omega)⟩ | exact Or.inl ⟨rfl, by omega, by omega, Or.inr (by omega)⟩ | exact Or.inr ⟨rfl, Or.inl (by omega)⟩ | exact Or.inr ⟨rfl, Or.inr (Or.inl (by omega))⟩ | exact Or.inr ⟨rfl, Or.inr (Or.inr ⟨by omega, by omega⟩)⟩)
                          exact ihr _ (by omega) (r + 1) 1 Q7 rfl (by omega) hstep.m01 hstep
                        · refine x_iconst d_P_prepare_366 ?_
                          refine x_goto (tgt := 371) d_P_prepare_367 rfl ?_
                          refine x_zast 40 (hM.at 7 rfl) rfl ⟨by decide, rfl, by decide⟩ rfl (by omega) (narz (by omega)) d_P_prepare_371 (fun Q8 hQ8 => ?_)
                          refine x_iinc d_P_prepare_372 rfl [some (.ref ((σ 30).1)), some (vi 1), some (vi (r + 1)), some (vi 0), some (vi 0), some (vi (R 35 r))] rfl rfl (lr rfl) ?_
                          refine x_goto (tgt := 223) d_P_prepare_375 rfl ?_
                          refine V.forget 3 [some (.ref ((σ 30).1)), some (vi 1), some (vi (r + 1)), none, some (vi 0), some (vi (R 35 r))] rfl ?_
                          refine V.forget 4 [some (.ref ((σ 30).1)), some (vi 1), some (vi (r + 1)), none, none, some (vi (R 35 r))] rfl ?_
                          refine V.forget 5 [some (.ref ((σ 30).1)), some (vi 1), some (vi (r + 1)), none, none, none] rfl ?_
                          have hstep := mP2.step (more' := 1) hg hpa2 ⟨by omega, by omega⟩ hset hnone hQ5 hQ8 (by first | exact Or.inl ⟨rfl, by omega, by omega⟩ | exact Or.inr ⟨rfl, Or.inl (by omega)⟩ | exact Or.inr ⟨rfl, Or.inr (by omega)⟩) (by first | exact Or.inl ⟨rfl, by omega, by omega, Or.inl (by omega)⟩ | exact Or.inl ⟨rfl, by omega, by omega, Or.inr (by omega)⟩ | exact Or.inr ⟨rfl, Or.inl (by omega)⟩ | exact Or.inr ⟨rfl, Or.inr (Or.inl (by omega))⟩ | exact Or.inr ⟨rfl, Or.inr (Or.inr ⟨by omega, by omega⟩)⟩)
                          exact ihr _ (by omega) (r + 1) 1 Q8 rfl (by omega) hstep.m01 hstep
                    · refine x_iload d_P_prepare_308 rfl ?_
                      refine x_if_eq (tgt := 327) d_P_prepare_310 rfl (by omega) (fun c310 => ?_) (fun c310 => ?_)
                      · refine x_iconst d_P_prepare_327 ?_
                        refine x_istore_n d_P_prepare_328 1 rfl [some (.ref ((σ 30).1)), some (vi 0), some (vi r), some (vi 0), some (vi 0), some (vi (R 35 r))] rfl rfl (lr rfl) ?_
                        refine x_aload_n d_P_prepare_329 0 rfl rfl ?_
                        refine x_getc 30 10 41 41 fl_P_33 tk_23_10 (hM.at 0 rfl) rfl rfl d_P_prepare_330 ?_
                        refine x_iload d_P_prepare_333 rfl ?_
                        refine x_aload_n d_P_prepare_335 0 rfl rfl ?_
                        refine x_getc 30 10 41 41 fl_P_33 tk_23_10 (hM.at 0 rfl) rfl rfl d_P_prepare_336 ?_
                        refine x_iload d_P_prepare_339 rfl ?_
                        refine x_iald 41 (R2 41 (R 35 r)) (hM.at 8 rfl) rfl ⟨by decide, rfl, by decide⟩ rfl (by omega) rfl d_P_prepare_341 ?_
                        refine x_iload_n d_P_prepare_342 3 rfl rfl ?_
                        refine x_ior d_P_prepare_343 (ior (R2 41 (R 35 r)) 0) (iI_ior g41 hset0) ?_
                        refine x_iast 41 (hM.at 8 rfl) rfl ⟨by decide, rfl, by decide⟩ rfl (by omega) d_P_prepare_344 (fun Q9 hQ9 => ?_)
                        refine x_aload_n d_P_prepare_345 0 rfl rfl ?_
                        refine x_getc 30 9 40 40 fl_P_30 tk_23_9 (hM.at 0 rfl) rfl rfl d_P_prepare_346 ?_
                        refine x_iload d_P_prepare_349 rfl ?_
                        refine x_aload_n d_P_prepare_351 0 rfl rfl ?_
                        refine x_getc 30 9 40 40 fl_P_30 tk_23_9 (hM.at 0 rfl) rfl rfl d_P_prepare_352 ?_
                        refine x_iload d_P_prepare_355 rfl ?_
                        refine x_zald 40 (R2 40 (R 35 r)) (hM.at 7 rfl) rfl ⟨by decide, rfl, by decide⟩ rfl (by omega) (xr_o hQ9 (by decide)) d_P_prepare_357 ?_
                        refine x_if_ne (tgt := 366) d_P_prepare_358 rfl (by omega) (fun c358 => ?_) (fun c358 => ?_)
                        · refine x_iconst d_P_prepare_366 ?_
                          refine x_goto (tgt := 371) d_P_prepare_367 rfl ?_
                          refine x_zast 40 (hM.at 7 rfl) rfl ⟨by decide, rfl, by decide⟩ rfl (by omega) (narz (by omega)) d_P_prepare_371 (fun Q10 hQ10 => ?_)
                          refine x_iinc d_P_prepare_372 rfl [some (.ref ((σ 30).1)), some (vi 0), some (vi (r + 1)), some (vi 0), some (vi 0), some (vi (R 35 r))] rfl rfl (lr rfl) ?_
                          refine x_goto (tgt := 223) d_P_prepare_375 rfl ?_
                          refine V.forget 3 [some (.ref ((σ 30).1)), some (vi 0), some (vi (r + 1)), none, some (vi 0), some (vi (R 35 r))] rfl ?_
                          refine V.forget 4 [some (.ref ((σ 30).1)), some (vi 0), some (vi (r + 1)), none, none, some (vi (R 35 r))] rfl ?_
                          refine V.forget 5 [some (.ref ((σ 30).1)), some (vi 0), some (vi (r + 1)), none, none, none] rfl ?_
                          have hstep := mP2.step (more' := 0) hg hpa2 ⟨by omega, by omega⟩ hset hnone hQ9 hQ10 (by first | exact Or.inl ⟨rfl, by omega, by omega⟩ | exact Or.inr ⟨rfl, Or.inl (by omega)⟩ | exact Or.inr ⟨rfl, Or.inr (by omega)⟩) (by first | exact Or.inl ⟨rfl, by omega, by omega, Or.inl (by omega)⟩ | exact Or.inl ⟨rfl, by omega, by omega, Or.inr (by omega)⟩ | exact Or.inr ⟨rfl, Or.inl (by omega)⟩ | exact Or.inr ⟨rfl, Or.inr (Or.inl (by omega))⟩ | exact Or.inr ⟨rfl, Or.inr (Or.inr ⟨by omega, by omega⟩)⟩)
                          exact ihr _ (by omega) (r + 1) 0 Q10 rfl (by omega) hstep.m01 hstep
                        · refine x_iload d_P_prepare_361 rfl ?_
                          refine x_if_eq (tgt := 370) d_P_prepare_363 rfl (by omega) (fun c363 => ?_) (fun c363 => ?_)
                          · refine x_iconst d_P_prepare_370 ?_
                            refine x_zast 40 (hM.at 7 rfl) rfl ⟨by decide, rfl, by decide⟩ rfl (by omega) (narz (by omega)) d_P_prepare_371 (fun Q11 hQ11 => ?_)
                            refine x_iinc d_P_prepare_372 rfl [some (.ref ((σ 30).1)), some (vi 0), some (vi (r + 1)), some (vi 0), some (vi 0), some (vi (R 35 r))] rfl rfl (lr rfl) ?_
                            refine x_goto (tgt := 223) d_P_prepare_375 rfl ?_
                            refine V.forget 3 [some (.ref ((σ 30).1)), some (vi 0), some (vi (r + 1)), none, some (vi 0), some (vi (R 35 r))] rfl ?_
                            refine V.forget 4 [some (.ref ((σ 30).1)), some (vi 0), some (vi (r + 1)), none, none, some (vi (R 35 r))] rfl ?_
                            refine V.forget 5 [some (.ref ((σ 30).1)), some (vi 0), some (vi (r + 1)), none, none, none] rfl ?_
                            have hstep := mP2.step (more' := 0) hg hpa2 ⟨by omega, by omega⟩ hset hnone hQ9 hQ11 (by first | exact Or.inl ⟨rfl, by omega, by omega⟩ | exact Or.inr ⟨rfl, Or.inl (by omega)⟩ | exact Or.inr ⟨rfl, Or.inr (by omega)⟩) (by first | exact Or.inl ⟨rfl, by omega, by omega, Or.inl (by omega)⟩ | exact Or.inl ⟨rfl, by omega, by omega, Or.inr (by omega)⟩ | exact Or.inr ⟨rfl, Or.inl (by omega)⟩ | exact Or.inr ⟨rfl, Or.inr (Or.inl (by omega))⟩ | exact Or.inr ⟨rfl, Or.inr (Or.inr ⟨by omega, by omega⟩)⟩)
                            exact ihr _ (by omega) (r + 1) 0 Q11 rfl (by omega) hstep.m01 hstep
                          · refine x_iconst d_P_prepare_366 ?_
                            refine x_goto (tgt := 371) d_P_prepare_367 rfl ?_
                            refine x_zast 40 (hM.at 7 rfl) rfl ⟨by decide, rfl, by decide⟩ rfl (by omega) (narz (by omega)) d_P_prepare_371 (fun Q12 hQ12 => ?_)
                            refine x_iinc d_P_prepare_372 rfl [some (.ref ((σ 30).1)), some (vi 0), some (vi (r + 1)), some (vi 0), some (vi 0), some (vi (R 35 r))] rfl rfl (lr rfl) ?_
                            refine x_goto (tgt := 223) d_P_prepare_375 rfl ?_
                            refine V.forget 3 [some (.ref ((σ 30).1)), some (vi 0), some (vi (r + 1)), none, some (vi 0), some (vi (R 35 r))] rfl ?_
                            refine V.forget 4 [some (.ref ((σ 30).1)), some (vi 0), some (vi (r + 1)), none, none, some (vi (R 35 r))] rfl ?_
                            refine V.forget 5 [some (.ref ((σ 30).1)), some (vi 0), some (vi (r + 1)), none, none, none] rfl ?_
                            have hstep := mP2.step (more' := 0) hg hpa2 ⟨by omega, by omega⟩ hset hnone hQ9 hQ12 (by first | exact Or.inl ⟨rfl, by omega, by omega⟩ | exact Or.inr ⟨rfl, Or.inl (by omega)⟩ | exact Or.inr ⟨rfl, Or.inr (by omega)⟩) (by first | exact Or.inl ⟨rfl, by omega, by omega, Or.inl (by omega)⟩ | exact Or.inl ⟨rfl, by omega, by omega, Or.inr (by omega)⟩ | exact Or.inr ⟨rfl, Or.inl (by omega)⟩ | exact Or.inr ⟨rfl, Or.inr (Or.inl (by omega))⟩ | exact Or.inr ⟨rfl, Or.inr (Or.inr ⟨by omega, by omega⟩)⟩)
                            exact ihr _ (by omega) (r + 1) 0 Q12 rfl (by omega) hstep.m01 hstep
                      · refine x_aload_n d_P_prepare_313 0 rfl rfl ?_
                        refine x_getc 30 9 40 40 fl_P_30 tk_23_9 (hM.at 0 rfl) rfl rfl d_P_prepare_314 ?_
                        refine x_iload d_P_prepare_317 rfl ?_
                        refine x_zald 40 (R2 40 (R 35 r)) (hM.at 7 rfl) rfl ⟨by decide, rfl, by decide⟩ rfl (by omega) rfl d_P_prepare_319 ?_
                        refine x_if_ne (tgt := 327) d_P_prepare_320 rfl (by omega) (fun c320 => ?_) (fun c320 => ?_)
                        · refine x_iconst d_P_prepare_327 ?_
                          refine x_istore_n d_P_prepare_328 1 rfl [some (.ref ((σ 30).1)), some (vi 0), some (vi r), some (vi 0), some (vi 0), some (vi (R 35 r))] rfl rfl (lr rfl) ?_
                          refine x_aload_n d_P_prepare_329 0 rfl rfl ?_
                          refine x_getc 30 10 41 41 fl_P_33 tk_23_10 (hM.at 0 rfl) rfl rfl d_P_prepare_330 ?_
                          refine x_iload d_P_prepare_333 rfl ?_
                          refine x_aload_n d_P_prepare_335 0 rfl rfl ?_
                          refine x_getc 30 10 41 41 fl_P_33 tk_23_10 (hM.at 0 rfl) rfl rfl d_P_prepare_336 ?_
                          refine x_iload d_P_prepare_339 rfl ?_
                          refine x_iald 41 (R2 41 (R 35 r)) (hM.at 8 rfl) rfl ⟨by decide, rfl, by decide⟩ rfl (by omega) rfl d_P_prepare_341 ?_
                          refine x_iload_n d_P_prepare_342 3 rfl rfl ?_
                          refine x_ior d_P_prepare_343 (ior (R2 41 (R 35 r)) 0) (iI_ior g41 hset0) ?_
                          refine x_iast 41 (hM.at 8 rfl) rfl ⟨by decide, rfl, by decide⟩ rfl (by omega) d_P_prepare_344 (fun Q13 hQ13 => ?_)
                          refine x_aload_n d_P_prepare_345 0 rfl rfl ?_
                          refine x_getc 30 9 40 40 fl_P_30 tk_23_9 (hM.at 0 rfl) rfl rfl d_P_prepare_346 ?_
                          refine x_iload d_P_prepare_349 rfl ?_
                          refine x_aload_n d_P_prepare_351 0 rfl rfl ?_
                          refine x_getc 30 9 40 40 fl_P_30 tk_23_9 (hM.at 0 rfl) rfl rfl d_P_prepare_352 ?_
                          refine x_iload d_P_prepare_355 rfl ?_
                          refine x_zald 40 (R2 40 (R 35 r)) (hM.at 7 rfl) rfl ⟨by decide, rfl, by decide⟩ rfl (by omega) (xr_o hQ13 (by decide)) d_P_prepare_357 ?_
                          refine x_if_ne (tgt := 366) d_P_prepare_358 rfl (by omega) (fun c358 => ?_) (fun c358 => ?_)
                          · refine x_iconst d_P_prepare_366 ?_
                            refine x_goto (tgt := 371) d_P_prepare_367 rfl ?_
                            refine x_zast 40 (hM.at 7 rfl) rfl ⟨by decide, rfl, by decide⟩ rfl (by omega) (narz (by omega)) d_P_prepare_371 (fun Q14 hQ14 => ?_)
                            refine x_iinc d_P_prepare_372 rfl [some (.ref ((σ 30).1)), some (vi 0), some (vi (r + 1)), some (vi 0), some (vi 0), some (vi (R 35 r))] rfl rfl (lr rfl) ?_
                            refine x_goto (tgt := 223) d_P_prepare_375 rfl ?_
                            refine V.forget 3 [some (.ref ((σ 30).1)), some (vi 0), some (vi (r + 1)), none, some (vi 0), some (vi (R 35 r))] rfl ?_
                            refine V.forget 4 [some (.ref ((σ 30).1)), some (vi 0), some (vi (r + 1)), none, none, some (vi (R 35 r))] rfl ?_
                            refine V.forget 5 [some (.ref ((σ 30).1)), some (vi 0), some (vi (r + 1)), none, none, none] rfl ?_
                            have hstep := mP2.step (more' := 0) hg hpa2 ⟨by omega, by omega⟩ hset hnone hQ13 hQ14 (by first | exact Or.inl ⟨rfl, by omega, by omega⟩ | exact Or.inr ⟨rfl, Or.inl (by omega)⟩ | exact Or.inr ⟨rfl, Or.inr (by omega)⟩) (by first | exact Or.inl ⟨rfl, by omega, by omega, Or.inl (by omega)⟩ | exact Or.inl ⟨rfl, by omega, by omega, Or.inr (by omega)⟩ | exact Or.inr ⟨rfl, Or.inl (by omega)⟩ | exact Or.inr ⟨rfl, Or.inr (Or.inl (by omega))⟩ | exact Or.inr ⟨rfl, Or.inr (Or.inr ⟨by omega, by omega⟩)⟩)
                            exact ihr _ (by omega) (r + 1) 0 Q14 rfl (by omega) hstep.m01 hstep
                          · refine x_iload d_P_prepare_361 rfl ?_
                            refine x_if_eq (tgt := 370) d_P_prepare_363 rfl (by omega) (fun c363 => ?_) (fun c363 => ?_)
                            · refine x_iconst d_P_prepare_370 ?_
                              refine x_zast 40 (hM.at 7 rfl) rfl ⟨by decide, rfl, by decide⟩ rfl (by omega) (narz (by omega)) d_P_prepare_371 (fun Q15 hQ15 => ?_)
                              refine x_iinc d_P_prepare_372 rfl [some (.ref ((σ 30).1)), some (vi 0), some (vi (r + 1)), some (vi 0), some (vi 0), some (vi (R 35 r))] rfl rfl (lr rfl) ?_
                              refine x_goto (tgt := 223) d_P_prepare_375 rfl ?_
                              refine V.forget 3 [some (.ref ((σ 30).1)), some (vi 0), some (vi (r + 1)), none, some (vi 0), some (vi (R 35 r))] rfl ?_
                              refine V.forget 4 [some (.ref ((σ 30).1)), some (vi 0), some (vi (r + 1)), none, none, some (vi (R 35 r))] rfl ?_
                              refine V.forget 5 [some (.ref ((σ 30).1)), some (vi 0), some (vi (r + 1)), none, none, none] rfl ?_
                              have hstep := mP2.step (more' := 0) hg hpa2 ⟨by omega, by omega⟩ hset hnone hQ13 hQ15 (by first | exact Or.inl ⟨rfl, by omega, by omega⟩ | exact Or.inr ⟨rfl, Or.inl (by omega)⟩ | exact Or.inr ⟨rfl, Or.inr (by omega)⟩) (by first | exact Or.inl ⟨rfl, by omega, by omega, Or.inl (by omega)⟩ | exact Or.inl ⟨rfl, by omega, by omega, Or.inr (by omega)⟩ | exact Or.inr ⟨rfl, Or.inl (by omega)⟩ | exact Or.inr ⟨rfl, Or.inr (Or.inl (by omega))⟩ | exact Or.inr ⟨rfl, Or.inr (Or.inr ⟨by omega, by omega⟩)⟩)
                              exact ihr _ (by omega) (r + 1) 0 Q15 rfl (by omega) hstep.m01 hstep
                            · refine x_iconst d_P_prepare_366 ?_
                              refine x_goto (tgt := 371) d_P_prepare_367 rfl ?_
                              refine x_zast 40 (hM.at 7 rfl) rfl ⟨by decide, rfl, by decide⟩ rfl (by omega) (narz (by omega)) d_P_prepare_371 (fun Q16 hQ16 => ?_)
                              refine x_iinc d_P_prepare_372 rfl [some (.ref ((σ 30).1)), some (vi 0), some (vi (r + 1)), some (vi 0), some (vi 0), some (vi (R 35 r))] rfl rfl (lr rfl) ?_
                              refine x_goto (tgt := 223) d_P_prepare_375 rfl ?_
                              refine V.forget 3 [some (.ref ((σ 30).1)), some (vi 0), some (vi (r + 1)), none, some (vi 0), some (vi (R 35 r))] rfl ?_
                              refine V.forget 4 [some (.ref ((σ 30).1)), some (vi 0), some (vi (r + 1)), none, none, some (vi (R 35 r))] rfl ?_
                              refine V.forget 5 [some (.ref ((σ 30).1)), some (vi 0), some (vi (r + 1)), none, none, none] rfl ?_
                              have hstep := mP2.step (more' := 0) hg hpa2 ⟨by omega, by omega⟩ hset hnone hQ13 hQ16 (by first | exact Or.inl ⟨rfl, by omega, by omega⟩ | exact Or.inr ⟨rfl, Or.inl (by omega)⟩ | exact Or.inr ⟨rfl, Or.inr (by omega)⟩) (by first | exact Or.inl ⟨rfl, by omega, by omega, Or.inl (by omega)⟩ | exact Or.inl ⟨rfl, by omega, by omega, Or.inr (by omega)⟩ | exact Or.inr ⟨rfl, Or.inl (by omega)⟩ | exact Or.inr ⟨rfl, Or.inr (Or.inl (by omega))⟩ | exact Or.inr ⟨rfl, Or.inr (Or.inr ⟨by omega, by omega⟩)⟩)
                              exact ihr _ (by omega) (r + 1) 0 Q16 rfl (by omega) hstep.m01 hstep
                        · refine x_iconst d_P_prepare_323 ?_
                          refine x_goto (tgt := 328) d_P_prepare_324 rfl ?_
                          refine x_istore_n d_P_prepare_328 1 rfl [some (.ref ((σ 30).1)), some (vi 1), some (vi r), some (vi 0), some (vi 0), some (vi (R 35 r))] rfl rfl (lr rfl) ?_
                          refine x_aload_n d_P_prepare_329 0 rfl rfl ?_
                          refine x_getc 30 10 41 41 fl_P_33 tk_23_10 (hM.at 0 rfl) rfl rfl d_P_prepare_330 ?_
                          refine x_iload d_P_prepare_333 rfl ?_
                          refine x_aload_n d_P_prepare_335 0 rfl rfl ?_
                          refine x_getc 30 10 41 41 fl_P_33 tk_23_10 (hM.at 0 rfl) rfl rfl d_P_prepare_336 ?_
                          refine x_iload d_P_prepare_339 rfl ?_
                          refine x_iald 41 (R2 41 (R 35 r)) (hM.at 8 rfl) rfl ⟨by decide, rfl, by decide⟩ rfl (by omega) rfl d_P_prepare_341 ?_
                          refine x_iload_n d_P_prepare_342 3 rfl rfl ?_
                          refine x_ior d_P_prepare_343 (ior (R2 41 (R 35 r)) 0) (iI_ior g41 hset0) ?_
                          refine x_iast 41 (hM.at 8 rfl) rfl ⟨by decide, rfl, by decide⟩ rfl (by omega) d_P_prepare_344 (fun Q17 hQ17 => ?_)
                          refine x_aload_n d_P_prepare_345 0 rfl rfl ?_
                          refine x_getc 30 9 40 40 fl_P_30 tk_23_9 (hM.at 0 rfl) rfl rfl d_P_prepare_346 ?_
                          refine x_iload d_P_prepare_349 rfl ?_
                          refine x_aload_n d_P_prepare_351 0 rfl rfl ?_
                          refine x_getc 30 9 40 40 fl_P_30 tk_23_9 (hM.at 0 rfl) rfl rfl d_P_prepare_352 ?_
                          refine x_iload d_P_prepare_355 rfl ?_
                          refine x_zald 40 (R2 40 (R 35 r)) (hM.at 7 rfl) rfl ⟨by decide, rfl, by decide⟩ rfl (by omega) (xr_o hQ17 (by decide)) d_P_prepare_357 ?_
                          refine x_if_ne (tgt := 366) d_P_prepare_358 rfl (by omega) (fun c358 => ?_) (fun c358 => ?_)
                          · refine x_iconst d_P_prepare_366 ?_
                            refine x_goto (tgt := 371) d_P_prepare_367 rfl ?_
                            refine x_zast 40 (hM.at 7 rfl) rfl ⟨by decide, rfl, by decide⟩ rfl (by omega) (narz (by omega)) d_P_prepare_371 (fun Q18 hQ18 => ?_)
                            refine x_iinc d_P_prepare_372 rfl [some (.ref ((σ 30).1)), some (vi 1), some (vi (r + 1)), some (vi 0), some (vi 0), some (vi (R 35 r))] rfl rfl (lr rfl) ?_
                            refine x_goto (tgt := 223) d_P_prepare_375 rfl ?_
                            refine V.forget 3 [some (.ref ((σ 30).1)), some (vi 1), some (vi (r + 1)), none, some (vi 0), some (vi (R 35 r))] rfl ?_
                            refine V.forget 4 [some (.ref ((σ 30).1)), some (vi 1), some (vi (r + 1)), none, none, some (vi (R 35 r))] rfl ?_
                            refine V.forget 5 [some (.ref ((σ 30).1)), some (vi 1), some (vi (r + 1)), none, none, none] rfl ?_
                            have hstep := mP2.step (more' := 1) hg hpa2 ⟨by omega, by omega⟩ hset hnone hQ17 hQ18 (by first | exact Or.inl ⟨rfl, by omega, by omega⟩ | exact Or.inr ⟨rfl, Or.inl (by omega)⟩ | exact Or.inr ⟨rfl, Or.inr (by omega)⟩) (by first | exact Or.inl ⟨rfl, by omega, by omega, Or.inl (by omega)⟩ | exact Or.inl ⟨rfl, by omega, by omega, Or.inr (by omega)⟩ | exact Or.inr ⟨rfl, Or.inl (by omega)⟩ | exact Or.inr ⟨rfl, Or.inr (Or.inl (by omega))⟩ | exact Or.inr ⟨rfl, Or.inr (Or.inr ⟨by omega, by omega⟩)⟩)
                            exact ihr _ (by omega) (r + 1) 1 Q18 rfl (by omega) hstep.m01 hstep
                          · refine x_iload d_P_prepare_361 rfl ?_
                            refine x_if_eq (tgt := 370) d_P_prepare_363 rfl (by omega) (fun c363 => ?_) (fun c363 => ?_)
                            · refine x_iconst d_P_prepare_370 ?_
                              refine x_zast 40 (hM.at 7 rfl) rfl ⟨by decide, rfl, by decide⟩ rfl (by omega) (narz (by omega)) d_P_prepare_371 (fun Q19 hQ19 => ?_)
                              refine x_iinc d_P_prepare_372 rfl [some (.ref ((σ 30).1)), some (vi 1), some (vi (r + 1)), some (vi 0), some (vi 0), some (vi (R 35 r))] rfl rfl (lr rfl) ?_
                              refine x_goto (tgt := 223) d_P_prepare_375 rfl ?_
                              refine V.forget 3 [some (.ref ((σ 30).1)), some (vi 1), some (vi (r + 1)), none, some (vi 0), some (vi (R 35 r))] rfl ?_
                              refine V.forget 4 [some (.ref ((σ 30).1)), some (vi 1), some (vi (r + 1)), none, none, some (vi (R 35 r))] rfl ?_
                              refine V.forget 5 [some (.ref ((σ 30).1)), some (vi 1), some (vi (r + 1)), none, none, none] rfl ?_
                              have hstep := mP2.step (more' := 1) hg hpa2 ⟨by omega, by omega⟩ hset hnone hQ17 hQ19 (by first | exact Or.inl ⟨rfl, by omega, by omega⟩ | exact Or.inr ⟨rfl, Or.inl (by omega)⟩ | exact Or.inr ⟨rfl, Or.inr (by omega)⟩) (by first | exact Or.inl ⟨rfl, by omega, by omega, Or.inl (by omega)⟩ | exact Or.inl ⟨rfl, by omega, by omega, Or.inr (by omega)⟩ | exact Or.inr ⟨rfl, Or.inl (by omega)⟩ | exact Or.inr ⟨rfl, Or.inr (Or.inl (by omega))⟩ | exact Or.inr ⟨rfl, Or.inr (Or.inr ⟨by omega, by omega⟩)⟩)
                              exact ihr _ (by omega) (r + 1) 1 Q19 rfl (by omega) hstep.m01 hstep
                            · refine x_iconst d_P_prepare_366 ?_
                              refine x_goto (tgt := 371) d_P_prepare_367 rfl ?_
                              refine x_zast 40 (hM.at 7 rfl) rfl ⟨by decide, rfl, by decide⟩ rfl (by omega) (narz (by omega)) d_P_prepare_371 (fun Q20 hQ20 => ?_)
                              refine x_iinc d_P_prepare_372 rfl [some (.ref ((σ 30).1)), some (vi 1), some (vi (r + 1)), some (vi 0), some (vi 0), some (vi (R 35 r))] rfl rfl (lr rfl) ?_
                              refine x_goto (tgt := 223) d_P_prepare_375 rfl ?_
                              refine V.forget 3 [some (.ref ((σ 30).1)), some (vi 1), some (vi (r + 1)), none, some (vi 0), some (vi (R 35 r))] rfl ?_
                              refine V.forget 4 [some (.ref ((σ 30).1)), some (vi 1), some (vi (r + 1)), none, none, some (vi (R 35 r))] rfl ?_
                              refine V.forget 5 [some (.ref ((σ 30).1)), some (vi 1), some (vi (r + 1)), none, none, none] rfl ?_
                              have hstep := mP2.step (more' := 1) hg hpa2 ⟨by omega, by omega⟩ hset hnone hQ17 hQ20 (by first | exact Or.inl ⟨rfl, by omega, by omega⟩ | exact Or.inr ⟨rfl, Or.inl (by omega)⟩ | exact Or.inr ⟨rfl, Or.inr (by omega)⟩) (by first | exact Or.inl ⟨rfl, by omega, by omega, Or.inl (by omega)⟩ | exact Or.inl ⟨rfl, by omega, by omega, Or.inr (by omega)⟩ | exact Or.inr ⟨rfl, Or.inl (by omega)⟩ | exact Or.inr ⟨rfl, Or.inr (Or.inl (by omega))⟩ | exact Or.inr ⟨rfl, Or.inr (Or.inr ⟨by omega, by omega⟩)⟩)
                              exact ihr _ (by omega) (r + 1) 1 Q20 rfl (by omega) hstep.m01 hstep
                · exact absurd c237 c258
              · refine x_aload_n d_P_prepare_240 0 rfl rfl ?_
                refine x_iload_n d_P_prepare_241 2 rfl rfl ?_
                refine x_iconst d_P_prepare_242 ?_
                refine x_iconst d_P_prepare_243 ?_
                refine x_cvi 30 (As := [vi r, vi 0, vi 0]) (c_P_begins (R := R2) hM r 0 0 hok (by omega) ⟨by omega, by omega⟩) cs_P_99 hthis rfl rfl (lr rfl) d_P_prepare_244 (lr rfl) ⟨lr rfl, lr rfl⟩ ?_
                refine x_goto (tgt := 251) d_P_prepare_247 rfl ?_
                refine x_istore_n d_P_prepare_251 3 rfl [some (.ref ((σ 30).1)), some (vi more2), some (vi r), some (vi (bgs R2 0 (4 * r + R2 36 r - (4 * r + 0)).toNat (4 * r + 0))), none, none] rfl rfl (lr rfl) ?_
                have hset : (R2 38 r = 0 ∧ bgs R2 0 (4 * r + R2 36 r - (4 * r + 0)).toNat (4 * r + 0) = 0) ∨ (R2 38 r ≠ 0 ∧ bgs R2 0 (4 * r + R2 36 r - (4 * r + 0)).toNat (4 * r + 0) = bgs R2 0 (4 * r + R2 36 r - (4 * r + 0)).toNat (4 * r + 0)) := Or.inr ⟨c237, rfl⟩
                have hset0 : 0 ≤ bgs R2 0 (4 * r + R2 36 r - (4 * r + 0)).toNat (4 * r + 0) := (bgs_s7 (beh := 0) ⟨by omega, by omega⟩ _ _ (fun j d1 d2 => hok.2.2.1 j (by omega) (by omega)) (fun x d1 d2 => (hok.2.2.2 x d1 d2).2)).1
                have hs77 : s7 (bgs R2 0 (4 * r + R2 36 r - (4 * r + 0)).toNat (4 * r + 0)) := bgs_s7 (beh := 0) ⟨by omega, by omega⟩ _ _ (fun j d1 d2 => hok.2.2.1 j (by omega) (by omega)) (fun x d1 d2 => (hok.2.2.2 x d1 d2).2)
                refine x_aload_n d_P_prepare_252 0 rfl rfl ?_
                refine x_getc 30 7 38 38 fl_P_23 tk_23_7 (hM.at 0 rfl) rfl rfl d_P_prepare_253 ?_
                refine x_iload_n d_P_prepare_256 2 rfl rfl ?_
                refine x_zald 38 (R2 38 r) (hM.at 5 rfl) rfl ⟨by decide, rfl, by decide⟩ rfl (by omega) rfl d_P_prepare_257 ?_
                refine x_if_eq (tgt := 274) d_P_prepare_258 rfl (by omega) (fun c258 => ?_) (fun c258 => ?_)
                · exact absurd c258 c237
                · refine x_aload_n d_P_prepare_261 0 rfl rfl ?_
                  refine x_iload_n d_P_prepare_262 2 rfl rfl ?_
                  refine x_iconst d_P_prepare_263 ?_
                  refine x_cvi 30 (As := [vi r, vi 0]) (c_P_isEmpty (R := R2) hM r 0 hok (by omega)) cs_P_103 hthis rfl rfl (lr rfl) d_P_prepare_264 (lr rfl) ⟨lr rfl, lr rfl⟩ ?_
                  refine x_if_eq (tgt := 274) d_P_prepare_267 rfl (by have := zc_or (∀ j, 4 * r + 0 ≤ j → j < 4 * r + R2 36 r → mE R2 j); omega) (fun c267 => ?_) (fun c267 => ?_)
                  · refine x_iconst d_P_prepare_274 ?_
                    refine x_istore d_P_prepare_275 [some (.ref ((σ 30).1)), some (vi more2), some (vi r), some (vi (bgs R2 0 (4 * r + R2 36 r - (4 * r + 0)).toNat (4 * r + 0))), some (vi 0), none] rfl rfl (lr rfl) ?_
                    have hnone : ((0 : Int) = 0 ∧ (R2 38 r = 0 ∨ ¬ (∀ j, 4 * r + 0 ≤ j → j < 4 * r + R2 36 r → mE R2 j))) ∨ ((0 : Int) = 1 ∧ R2 38 r ≠ 0 ∧ ∀ j, 4 * r + 0 ≤ j → j < 4 * r + R2 36 r → mE R2 j) := Or.inl ⟨rfl, Or.inr (zc_eq0.mp c267)⟩
                    refine x_aload_n d_P_prepare_277 0 rfl rfl ?_
                    refine x_getc 30 4 35 35 fl_P_13 tk_23_4 (hM.at 0 rfl) rfl rfl d_P_prepare_278 ?_
                    refine x_iload_n d_P_prepare_281 2 rfl rfl ?_
                    refine x_iald 35 (R 35 r) (hM.at 2 rfl) rfl ⟨by decide, rfl, by decide⟩ rfl (by omega) (hpa2.1.1 35 r (by decide)) d_P_prepare_282 ?_
                    refine x_istore d_P_prepare_283 [some (.ref ((σ 30).1)), some (vi more2), some (vi r), some (vi (bgs R2 0 (4 * r + R2 36 r - (4 * r + 0)).toNat (4 * r + 0))), some (vi 0), some (vi (R 35 r))] rfl rfl (lr rfl) ?_
                    refine x_iload_n d_P_prepare_285 1 rfl rfl ?_
                    refine x_if_ne (tgt := 323) d_P_prepare_286 rfl (by omega) (fun c286 => ?_) (fun c286 => ?_)
                    · refine x_iconst d_P_prepare_323 ?_
                      refine x_goto (tgt := 328) d_P_prepare_324 rfl ?_
                      refine x_istore_n d_P_prepare_328 1 rfl [some (.ref ((σ 30).1)), some (vi 1), some (vi r), some (vi (bgs R2 0 (4 * r + R2 36 r - (4 * r + 0)).toNat (4 * r + 0))), some (vi 0), some (vi (R 35 r))] rfl rfl (lr rfl) ?_
                      refine x_aload_n d_P_prepare_329 0 rfl rfl ?_
                      refine x_getc 30 10 41 41 fl_P_33 tk_23_10 (hM.at 0 rfl) rfl rfl d_P_prepare_330 ?_
                      refine x_iload d_P_prepare_333 rfl ?_
                      refine x_aload_n d_P_prepare_335 0 rfl rfl ?_
                      refine x_getc 30 10 41 41 fl_P_33 tk_23_10 (hM.at 0 rfl) rfl rfl d_P_prepare_336 ?_
                      refine x_iload d_P_prepare_339 rfl ?_
                      refine x_iald 41 (R2 41 (R 35 r)) (hM.at 8 rfl) rfl ⟨by decide, rfl, by decide⟩ rfl (by omega) rfl d_P_prepare_341 ?_
                      refine x_iload_n d_P_prepare_342 3 rfl rfl ?_
                      refine x_ior d_P_prepare_343 (ior (R2 41 (R 35 r)) (bgs R2 0 (4 * r + R2 36 r - (4 * r + 0)).toNat (4 * r + 0))) (iI_ior g41 hset0) ?_
                      refine x_iast 41 (hM.at 8 rfl) rfl ⟨by decide, rfl, by decide⟩ rfl (by omega) d_P_prepare_344 (fun Q21 hQ21 => ?_)
                      refine x_aload_n d_P_prepare_345 0 rfl rfl ?_
                      refine x_getc 30 9 40 40 fl_P_30 tk_23_9 (hM.at 0 rfl) rfl rfl d_P_prepare_346 ?_
                      refine x_iload d_P_prepare_349 rfl ?_
                      refine x_aload_n d_P_prepare_351 0 rfl rfl ?_
                      refine x_getc 30 9 40 40 fl_P_30 tk_23_9 (hM.at 0 rfl) rfl rfl d_P_prepare_352 ?_
                      refine x_iload d_P_prepare_355 rfl ?_
                      refine x_zald 40 (R2 40 (R 35 r)) (hM.at 7 rfl) rfl ⟨by decide, rfl, by decide⟩ rfl (by omega) (xr_o hQ21 (by decide)) d_P_prepare_357 ?_
                      refine x_if_ne (tgt := 366) d_P_prepare_358 rfl (by omega) (fun c358 => ?_) (fun c358 => ?_)
                      · refine x_iconst d_P_prepare_366 ?_
                        refine x_goto (tgt := 371) d_P_prepare_367 rfl ?_
                        refine x_zast 40 (hM.at 7 rfl) rfl ⟨by decide, rfl, by decide⟩ rfl (by omega) (narz (by omega)) d_P_prepare_371 (fun Q22 hQ22 => ?_)
                        refine x_iinc d_P_prepare_372 rfl [some (.ref ((σ 30).1)), some (vi 1), some (vi (r + 1)), some (vi (bgs R2 0 (4 * r + R2 36 r - (4 * r + 0)).toNat (4 * r + 0))), some (vi 0), some (vi (R 35 r))] rfl rfl (lr rfl) ?_
                        refine x_goto (tgt := 223) d_P_prepare_375 rfl ?_
                        refine V.forget 3 [some (.ref ((σ 30).1)), some (vi 1), some (vi (r + 1)), none, some (vi 0), some (vi (R 35 r))] rfl ?_
                        refine V.forget 4 [some (.ref ((σ 30).1)), some (vi 1), some (vi (r + 1)), none, none, some (vi (R 35 r))] rfl ?_
                        refine V.forget 5 [some (.ref ((σ 30).1)), some (vi 1), some (vi (r + 1)), none, none, none] rfl ?_
                        have hstep := mP2.step (more' := 1) hg hpa2 ⟨by omega, by omega⟩ hset hnone hQ21 hQ22 (by first | exact Or.inl ⟨rfl, by omega, by omega⟩ | exact Or.inr ⟨rfl, Or.inl (by omega)⟩ | exact Or.inr ⟨rfl, Or.inr (by omega)⟩) (by first | exact Or.inl ⟨rfl, by omega, by omega, Or.inl (by omega)⟩ | exact Or.inl ⟨rfl, by omega, by omega, Or.inr (by omega)⟩ | exact Or.inr ⟨rfl, Or.inl (by omega)⟩ | exact Or.inr ⟨rfl, Or.inr (Or.inl (by omega))⟩ | exact Or.inr ⟨rfl, Or.inr (Or.inr ⟨by omega, by omega⟩)⟩)
                        exact ihr _ (by omega) (r + 1) 1 Q22 rfl (by omega) hstep.m01 hstep
                      · refine x_iload d_P_prepare_361 rfl ?_
                        refine x_if_eq (tgt := 370) d_P_prepare_363 rfl (by omega) (fun c363 => ?_) (fun c363 => ?_)
                        · refine x_iconst d_P_prepare_370 ?_
                          refine x_zast 40 (hM.at 7 rfl) rfl ⟨by decide, rfl, by decide⟩ rfl (by omega) (narz (by omega)) d_P_prepare_371 (fun Q23 hQ23 => ?_)
                          refine x_iinc d_P_prepare_372 rfl [some (.ref ((σ 30).1)), some (vi 1), some (vi (r + 1)), some (vi (bgs R2 0 (4 * r + R2 36 r - (4 * r + 0)).toNat (4 * r + 0))), some (vi 0), some (vi (R 35 r))] rfl rfl (lr rfl) ?_
                          refine x_goto (tgt := 223) d_P_prepare_375 rfl ?_
                          refine V.forget 3 [some (.ref ((σ 30).1)), some (vi 1), some (vi (r + 1)), none, some (vi 0), some (vi (R 35 r))] rfl ?_
                          refine V.forget 4 [some (.ref ((σ 30).1)), some (vi 1), some (vi (r + 1)), none, none, some (vi (R 35 r))] rfl ?_
                          refine V.forget 5 [some (.ref ((σ 30).1)), some (vi 1), some (vi (r + 1)), none, none, none] rfl ?_
                          have hstep := mP2.step (more' := 1) hg hpa2 ⟨by omega, by omega⟩ hset hnone hQ21 hQ23 (by first | exact Or.inl ⟨rfl, by omega, by omega⟩ | exact Or.inr ⟨rfl, Or.inl (by omega)⟩ | exact Or.inr ⟨rfl, Or.inr (by omega)⟩) (by first | exact Or.inl ⟨rfl, by omega, by omega, Or.inl (by omega)⟩ | exact Or.inl ⟨rfl, by omega, by omega, Or.inr (by omega)⟩ | exact Or.inr ⟨rfl, Or.inl (by omega)⟩ | exact Or.inr ⟨rfl, Or.inr (Or.inl (by omega))⟩ | exact Or.inr ⟨rfl, Or.inr (Or.inr ⟨by omega, by omega⟩)⟩)
                          exact ihr _ (by omega) (r + 1) 1 Q23 rfl (by omega) hstep.m01 hstep
                        · refine x_iconst d_P_prepare_366 ?_
                          refine x_goto (tgt := 371) d_P_prepare_367 rfl ?_
                          refine x_zast 40 (hM.at 7 rfl) rfl ⟨by decide, rfl, by decide⟩ rfl (by omega) (narz (by omega)) d_P_prepare_371 (fun Q24 hQ24 => ?_)
                          refine x_iinc d_P_prepare_372 rfl [some (.ref ((σ 30).1)), some (vi 1), some (vi (r + 1)), some (vi (bgs R2 0 (4 * r + R2 36 r - (4 * r + 0)).toNat (4 * r + 0))), some (vi 0), some (vi (R 35 r))] rfl rfl (lr rfl) ?_
                          refine x_goto (tgt := 223) d_P_prepare_375 rfl ?_
                          refine V.forget 3 [some (.ref ((σ 30).1)), some (vi 1), some (vi (r + 1)), none, some (vi 0), some (vi (R 35 r))] rfl ?_
                          refine V.forget 4 [some (.ref ((σ 30).1)), some (vi 1), some (vi (r + 1)), none, none, some (vi (R 35 r))] rfl ?_
                          refine V.forget 5 [some (.ref ((σ 30).1)), some (vi 1), some (vi (r + 1)), none, none, none] rfl ?_
                          have hstep := mP2.step (more' := 1) hg hpa2 ⟨by omega, by omega⟩ hset hnone hQ21 hQ24 (by first | exact Or.inl ⟨rfl, by omega, by omega⟩ | exact Or.inr ⟨rfl, Or.inl (by omega)⟩ | exact Or.inr ⟨rfl, Or.inr (by omega)⟩) (by first | exact Or.inl ⟨rfl, by omega, by omega, Or.inl (by omega)⟩ | exact Or.inl ⟨rfl, by omega, by omega, Or.inr (by omega)⟩ | exact Or.inr ⟨rfl, Or.inl (by omega)⟩ | exact Or.inr ⟨rfl, Or.inr (Or.inl (by omega))⟩ | exact Or.inr ⟨rfl, Or.inr (Or.inr ⟨by omega, by omega⟩)⟩)
                          exact ihr _ (by omega) (r + 1) 1 Q24 rfl (by omega) hstep.m01 hstep
                    · refine x_iload_n d_P_prepare_289 3 rfl rfl ?_
                      refine x_aload_n d_P_prepare_290 0 rfl rfl ?_
                      refine x_getc 30 10 41 41 fl_P_33 tk_23_10 (hM.at 0 rfl) rfl rfl d_P_prepare_291 ?_
                      refine x_iload d_P_prepare_294 rfl ?_
                      refine x_iald 41 (R2 41 (R 35 r)) (hM.at 8 rfl) rfl ⟨by decide, rfl, by decide⟩ rfl (by omega) rfl d_P_prepare_296 ?_
                      refine x_ior d_P_prepare_297 (ior (bgs R2 0 (4 * r + R2 36 r - (4 * r + 0)).toNat (4 * r + 0)) (R2 41 (R 35 r))) (iI_ior hset0 g41) ?_
                      refine x_aload_n d_P_prepare_298 0 rfl rfl ?_
                      refine x_getc 30 10 41 41 fl_P_33 tk_23_10 (hM.at 0 rfl) rfl rfl d_P_prepare_299 ?_
                      refine x_iload d_P_prepare_302 rfl ?_
                      refine x_iald 41 (R2 41 (R 35 r)) (hM.at 8 rfl) rfl ⟨by decide, rfl, by decide⟩ rfl (by omega) rfl d_P_prepare_304 ?_
                      refine x_icmp_ne (tgt := 323) d_P_prepare_305 rfl (by have q := ior_s7 hs77 g40.2; have := q.1; have := q.2; omega) (by have := g40.2.2; omega) (fun c305 => ?_) (fun c305 => ?_)
                      · refine x_iconst d_P_prepare_323 ?_
                        refine x_goto (tgt := 328) d_P_prepare_324 rfl ?_
                        refine x_istore_n d_P_prepare_328 1 rfl [some (.ref ((σ 30).1)), some (vi 1), some (vi r), some (vi (bgs R2 0 (4 * r + R2 36 r - (4 * r + 0)).toNat (4 * r + 0))), some (vi 0), some (vi (R 35 r))] rfl rfl (lr rfl) ?_
                        refine x_aload_n d_P_prepare_329 0 rfl rfl ?_
                        refine x_getc 30 10 41 41 fl_P_33 tk_23_10 (hM.at 0 rfl) rfl rfl d_P_prepare_330 ?_
                        refine x_iload d_P_prepare_333 rfl ?_
                        refine x_aload_n d_P_prepare_335 0 rfl rfl ?_
                        refine x_getc 30 10 41 41 fl_P_33 tk_23_10 (hM.at 0 rfl) rfl rfl d_P_prepare_336 ?_
                        refine x_iload d_P_prepare_339 rfl ?_
                        refine x_iald 41 (R2 41 (R 35 r)) (hM.at 8 rfl) rfl ⟨by decide, rfl, by decide⟩ rfl (by omega) rfl d_P_prepare_341 ?_
                        refine x_iload_n d_P_prepare_342 3 rfl rfl ?_
                        refine x_ior d_P_prepare_343 (ior (R2 41 (R 35 r)) (bgs R2 0 (4 * r + R2 36 r - (4 * r + 0)).toNat (4 * r + 0))) (iI_ior g41 hset0) ?_
                        refine x_iast 41 (hM.at 8 rfl) rfl ⟨by decide, rfl, by decide⟩ rfl (by omega) d_P_prepare_344 (fun Q25 hQ25 => ?_)
                        refine x_aload_n d_P_prepare_345 0 rfl rfl ?_
                        refine x_getc 30 9 40 40 fl_P_30 tk_23_9 (hM.at 0 rfl) rfl rfl d_P_prepare_346 ?_
                        refine x_iload d_P_prepare_349 rfl ?_
                        refine x_aload_n d_P_prepare_351 0 rfl rfl ?_
                        refine x_getc 30 9 40 40 fl_P_30 tk_23_9 (hM.at 0 rfl) rfl rfl d_P_prepare_352 ?_
                        refine x_iload d_P_prepare_355 rfl ?_
                        refine x_zald 40 (R2 40 (R 35 r)) (hM.at 7 rfl) rfl ⟨by decide, rfl, by decide⟩ rfl (by omega) (xr_o hQ25 (by decide)) d_P_prepare_357 ?_
                        refine x_if_ne (tgt := 366) d_P_prepare_358 rfl (by omega) (fun c358 => ?_) (fun c358 => ?_)
                        · refine x_iconst d_P_prepare_366 ?_
                          refine x_goto (tgt := 371) d_P_prepare_367 rfl ?_
                          refine x_zast 40 (hM.at 7 rfl) rfl ⟨by decide, rfl, by decide⟩ rfl (by omega) (narz (by omega)) d_P_prepare_371 (fun Q26 hQ26 => ?_)
                          refine x_iinc d_P_prepare_372 rfl [some (.ref ((σ 30).1)), some (vi 1), some (vi (r + 1)), some (vi (bgs R2 0 (4 * r + R2 36 r - (4 * r + 0)).toNat (4 * r + 0))), some (vi 0), some (vi (R 35 r))] rfl rfl (lr rfl) ?_
                          refine x_goto (tgt := 223) d_P_prepare_375 rfl ?_
                          refine V.forget 3 [some (.ref ((σ 30).1)), some (vi 1), some (vi (r + 1)), none, some (vi 0), some (vi (R 35 r))] rfl ?_
                          refine V.forget 4 [some (.ref ((σ 30).1)), some (vi 1), some (vi (r + 1)), none, none, some (vi (R 35 r))] rfl ?_
                          refine V.forget 5 [some (.ref ((σ 30).1)), some (vi 1), some (vi (r + 1)), none, none, none] rfl ?_
                          have hstep := mP2.step (more' := 1) hg hpa2 ⟨by omega, by omega⟩ hset hnone hQ25 hQ26 (by first | exact Or.inl ⟨rfl, by omega, by omega⟩ | exact Or.inr ⟨rfl, Or.inl (by omega)⟩ | exact Or.inr ⟨rfl, Or.inr (by omega)⟩) (by first | exact Or.inl ⟨rfl, by omega, by omega, Or.inl (by omega)⟩ | exact Or.inl ⟨rfl, by omega, by omega, Or.inr (by omega)⟩ | exact Or.inr ⟨rfl, Or.inl (by omega)⟩ | exact Or.inr ⟨rfl, Or.inr (Or.inl (by omega))⟩ | exact Or.inr ⟨rfl, Or.inr (Or.inr ⟨by omega, by omega⟩)⟩)
                          exact ihr _ (by omega) (r + 1) 1 Q26 rfl (by omega) hstep.m01 hstep
                        · refine x_iload d_P_prepare_361 rfl ?_
                          refine x_if_eq (tgt := 370) d_P_prepare_363 rfl (by omega) (fun c363 => ?_) (fun c363 => ?_)
                          · refine x_iconst d_P_prepare_370 ?_
                            refine x_zast 40 (hM.at 7 rfl) rfl ⟨by decide, rfl, by decide⟩ rfl (by omega) (narz (by omega)) d_P_prepare_371 (fun Q27 hQ27 => ?_)
                            refine x_iinc d_P_prepare_372 rfl [some (.ref ((σ 30).1)), some (vi 1), some (vi (r + 1)), some (vi (bgs R2 0 (4 * r + R2 36 r - (4 * r + 0)).toNat (4 * r + 0))), some (vi 0), some (vi (R 35 r))] rfl rfl (lr rfl) ?_
                            refine x_goto (tgt := 223) d_P_prepare_375 rfl ?_
                            refine V.forget 3 [some (.ref ((σ 30).1)), some (vi 1), some (vi (r + 1)), none, some (vi 0), some (vi (R 35 r))] rfl ?_
                            refine V.forget 4 [some (.ref ((σ 30).1)), some (vi 1), some (vi (r + 1)), none, none, some (vi (R 35 r))] rfl ?_
                            refine V.forget 5 [some (.ref ((σ 30).1)), some (vi 1), some (vi (r + 1)), none, none, none] rfl ?_
                            have hstep := mP2.step (more' := 1) hg hpa2 ⟨by omega, by omega⟩ hset hnone hQ25 hQ27 (by first | exact Or.inl ⟨rfl, by omega, by omega⟩ | exact Or.inr ⟨rfl, Or.inl (by omega)⟩ | exact Or.inr ⟨rfl, Or.inr (by omega)⟩) (by first | exact Or.inl ⟨rfl, by omega, by omega, Or.inl (by omega)⟩ | exact Or.inl ⟨rfl, by omega, by omega, Or.inr (by omega)⟩ | exact Or.inr ⟨rfl, Or.inl (by omega)⟩ | exact Or.inr ⟨rfl, Or.inr (Or.inl (by omega))⟩ | exact Or.inr ⟨rfl, Or.inr (Or.inr ⟨by omega, by omega⟩)⟩)
                            exact ihr _ (by omega) (r + 1) 1 Q27 rfl (by omega) hstep.m01 hstep
                          · refine x_iconst d_P_prepare_366 ?_
                            refine x_goto (tgt := 371) d_P_prepare_367 rfl ?_
                            refine x_zast 40 (hM.at 7 rfl) rfl ⟨by decide, rfl, by decide⟩ rfl (by omega) (narz (by omega)) d_P_prepare_371 (fun Q28 hQ28 => ?_)
                            refine x_iinc d_P_prepare_372 rfl [some (.ref ((σ 30).1)), some (vi 1), some (vi (r + 1)), some (vi (bgs R2 0 (4 * r + R2 36 r - (4 * r + 0)).toNat (4 * r + 0))), some (vi 0), some (vi (R 35 r))] rfl rfl (lr rfl) ?_
                            refine x_goto (tgt := 223) d_P_prepare_375 rfl ?_
                            refine V.forget 3 [some (.ref ((σ 30).1)), some (vi 1), some (vi (r + 1)), none, some (vi 0), some (vi (R 35 r))] rfl ?_
                            refine V.forget 4 [some (.ref ((σ 30).1)), some (vi 1), some (vi (r + 1)), none, none, some (vi (R 35 r))] rfl ?_
                            refine V.forget 5 [some (.ref ((σ 30).1)), some (vi 1), some (vi (r + 1)), none, none, none] rfl ?_
                            have hstep := mP2.step (more' := 1) hg hpa2 ⟨by omega, by omega⟩ hset hnone hQ25 hQ28 (by first | exact Or.inl ⟨rfl, by omega, by omega⟩ | exact Or.inr ⟨rfl, Or.inl (by omega)⟩ | exact Or.inr ⟨rfl, Or.inr (by omega)⟩) (by first | exact Or.inl ⟨rfl, by omega, by omega, Or.inl (by omega)⟩ | exact Or.inl ⟨rfl, by omega, by omega, Or.inr (by omega)⟩ | exact Or.inr ⟨rfl, Or.inl (by omega)⟩ | exact Or.inr ⟨rfl, Or.inr (Or.inl (by omega))⟩ | exact Or.inr ⟨rfl, Or.inr (Or.inr ⟨by omega, by omega⟩)⟩)
                            exact ihr _ (by omega) (r + 1) 1 Q28 rfl (by omega) hstep.m01 hstep
                      · refine x_iload d_P_prepare_308 rfl ?_
                        refine x_if_eq (tgt := 327) d_P_prepare_310 rfl (by omega) (fun c310 => ?_) (fun c310 => ?_)
                        · refine x_iconst d_P_prepare_327 ?_
                          refine x_istore_n d_P_prepare_328 1 rfl [some (.ref ((σ 30).1)), some (vi 0), some (vi r), some (vi (bgs R2 0 (4 * r + R2 36 r - (4 * r + 0)).toNat (4 * r + 0))), some (vi 0), some (vi (R 35 r))] rfl rfl (lr rfl) ?_
                          refine x_aload_n d_P_prepare_329 0 rfl rfl ?_
                          refine x_getc 30 10 41 41 fl_P_33 tk_23_10 (hM.at 0 rfl) rfl rfl d_P_prepare_330 ?_
                          refine x_iload d_P_prepare_333 rfl ?_
                          refine x_aload_n d_P_prepare_335 0 rfl rfl ?_
                          refine x_getc 30 10 41 41 fl_P_33 tk_23_10 (hM.at 0 rfl) rfl rfl d_P_prepare_336 ?_
                          refine x_iload d_P_prepare_339 rfl ?_
                          refine x_iald 41 (R2 41 (R 35 r)) (hM.at 8 rfl) rfl ⟨by decide, rfl, by decide⟩ rfl (by omega) rfl d_P_prepare_341 ?_
                          refine x_iload_n d_P_prepare_342 3 rfl rfl ?_
                          refine x_ior d_P_prepare_343 (ior (R2 41 (R 35 r)) (bgs R2 0 (4 * r + R2 36 r - (4 * r + 0)).toNat (4 * r + 0))) (iI_ior g41 hset0) ?_
                          refine x_iast 41 (hM.at 8 rfl) rfl ⟨by decide, rfl, by decide⟩ rfl (by omega) d_P_prepare_344 (fun Q29 hQ29 => ?_)
                          refine x_aload_n d_P_prepare_345 0 rfl rfl ?_
                          refine x_getc 30 9 40 40 fl_P_30 tk_23_9 (hM.at 0 rfl) rfl rfl d_P_prepare_346 ?_
                          refine x_iload d_P_prepare_349 rfl ?_
                          refine x_aload_n d_P_prepare_351 0 rfl rfl ?_
                          refine x_getc 30 9 40 40 fl_P_30 tk_23_9 (hM.at 0 rfl) rfl rfl d_P_prepare_352 ?_
                          refine x_iload d_P_prepare_355 rfl ?_
                          refine x_zald 40 (R2 40 (R 35 r)) (hM.at 7 rfl) rfl ⟨by decide, rfl, by decide⟩ rfl (by omega) (xr_o hQ29 (by decide)) d_P_prepare_357 ?_
                          refine x_if_ne (tgt := 366) d_P_prepare_358 rfl (by omega) (fun c358 => ?_) (fun c358 => ?_)
                          · refine x_iconst d_P_prepare_366 ?_
                            refine x_goto (tgt := 371) d_P_prepare_367 rfl ?_
                            refine x_zast 40 (hM.at 7 rfl) rfl ⟨by decide, rfl, by decide⟩ rfl (by omega) (narz (by omega)) d_P_prepare_371 (fun Q30 hQ30 => ?_)
                            refine x_iinc d_P_prepare_372 rfl [some (.ref ((σ 30).1)), some (vi 0), some (vi (r + 1)), some (vi (bgs R2 0 (4 * r + R2 36 r - (4 * r + 0)).toNat (4 * r + 0))), some (vi 0), some (vi (R 35 r))] rfl rfl (lr rfl) ?_
                            refine x_goto (tgt := 223) d_P_prepare_375 rfl ?_
                            refine V.forget 3 [some (.ref ((σ 30).1)), some (vi 0), some (vi (r + 1)), none, some (vi 0), some (vi (R 35 r))] rfl ?_
                            refine V.forget 4 [some (.ref ((σ 30).1)), some (vi 0), some (vi (r + 1)), none, none, some (vi (R 35 r))] rfl ?_
                            refine V.forget 5 [some (.ref ((σ 30).1)), some (vi 0), some (vi (r + 1)), none, none, none] rfl ?_
                            have hstep := mP2.step (more' := 0) hg hpa2 ⟨by omega, by omega⟩ hset hnone hQ29 hQ30 (by first | exact Or.inl ⟨rfl, by omega, by omega⟩ | exact Or.inr ⟨rfl, Or.inl (by omega)⟩ | exact Or.inr ⟨rfl, Or.inr (by omega)⟩) (by first | exact Or.inl ⟨rfl, by omega, by omega, Or.inl (by omega)⟩ | exact Or.inl ⟨rfl, by omega, by omega, Or.inr (by omega)⟩ | exact Or.inr ⟨rfl, Or.inl (by omega)⟩ | exact Or.inr ⟨rfl, Or.inr (Or.inl (by omega))⟩ | exact Or.inr ⟨rfl, Or.inr (Or.inr ⟨by omega, by omega⟩)⟩)
                            exact ihr _ (by omega) (r + 1) 0 Q30 rfl (by omega) hstep.m01 hstep
                          · refine x_iload d_P_prepare_361 rfl ?_
                            refine x_if_eq (tgt := 370) d_P_prepare_363 rfl (by omega) (fun c363 => ?_) (fun c363 => ?_)
                            · refine x_iconst d_P_prepare_370 ?_
                              refine x_zast 40 (hM.at 7 rfl) rfl ⟨by decide, rfl, by decide⟩ rfl (by omega) (narz (by omega)) d_P_prepare_371 (fun Q31 hQ31 => ?_)
                              refine x_iinc d_P_prepare_372 rfl [some (.ref ((σ 30).1)), some (vi 0), some (vi (r + 1)), some (vi (bgs R2 0 (4 * r + R2 36 r - (4 * r + 0)).toNat (4 * r + 0))), some (vi 0), some (vi (R 35 r))] rfl rfl (lr rfl) ?_
                              refine x_goto (tgt := 223) d_P_prepare_375 rfl ?_
                              refine V.forget 3 [some (.ref ((σ 30).1)), some (vi 0), some (vi (r + 1)), none, some (vi 0), some (vi (R 35 r))] rfl ?_
                              refine V.forget 4 [some (.ref ((σ 30).1)), some (vi 0), some (vi (r + 1)), none, none, some (vi (R 35 r))] rfl ?_
                              refine V.forget 5 [some (.ref ((σ 30).1)), some (vi 0), some (vi (r + 1)), none, none, none] rfl ?_
                              have hstep := mP2.step (more' := 0) hg hpa2 ⟨by omega, by omega⟩ hset hnone hQ29 hQ31 (by first | exact Or.inl ⟨rfl, by omega, by omega⟩ | exact Or.inr ⟨rfl, Or.inl (by omega)⟩ | exact Or.inr ⟨rfl, Or.inr (by omega)⟩) (by first | exact Or.inl ⟨rfl, by omega, by omega, Or.inl (by omega)⟩ | exact Or.inl ⟨rfl, by omega, by omega, Or.inr (by omega)⟩ | exact Or.inr ⟨rfl, Or.inl (by omega)⟩ | exact Or.inr ⟨rfl, Or.inr (Or.inl (by omega))⟩ | exact Or.inr ⟨rfl, Or.inr (Or.inr ⟨by omega, by omega⟩)⟩)
                              exact ihr _ (by omega) (r + 1) 0 Q31 rfl (by omega) hstep.m01 hstep
                            · refine x_iconst d_P_prepare_366 ?_
                              refine x_goto (tgt := 371) d_P_prepare_367 rfl ?_
                              refine x_zast 40 (hM.at 7 rfl) rfl ⟨by decide, rfl, by decide⟩ rfl (by omega) (narz (by omega)) d_P_prepare_371 (fun Q32 hQ32 => ?_)
                              refine x_iinc d_P_prepare_372 rfl [some (.ref ((σ 30).1)), some (vi 0), some (vi (r + 1)), some (vi (bgs R2 0 (4 * r + R2 36 r - (4 * r + 0)).toNat (4 * r + 0))), some (vi 0), some (vi (R 35 r))] rfl rfl (lr rfl) ?_
                              refine x_goto (tgt := 223) d_P_prepare_375 rfl ?_
                              refine V.forget 3 [some (.ref ((σ 30).1)), some (vi 0), some (vi (r + 1)), none, some (vi 0), some (vi (R 35 r))] rfl ?_
                              refine V.forget 4 [some (.ref ((σ 30).1)), some (vi 0), some (vi (r + 1)), none, none, some (vi (R 35 r))] rfl ?_
                              refine V.forget 5 [some (.ref ((σ 30).1)), some (vi 0), some (vi (r + 1)), none, none, none] rfl ?_
                              have hstep := mP2.step (more' := 0) hg hpa2 ⟨by omega, by omega⟩ hset hnone hQ29 hQ32 (by first | exact Or.inl ⟨rfl, by omega, by omega⟩ | exact Or.inr ⟨rfl, Or.inl (by omega)⟩ | exact Or.inr ⟨rfl, Or.inr (by omega)⟩) (by first | exact Or.inl ⟨rfl, by omega, by omega, Or.inl (by omega)⟩ | exact Or.inl ⟨rfl, by omega, by omega, Or.inr (by omega)⟩ | exact Or.inr ⟨rfl, Or.inl (by omega)⟩ | exact Or.inr ⟨rfl, Or.inr (Or.inl (by omega))⟩ | exact Or.inr ⟨rfl, Or.inr (Or.inr ⟨by omega, by omega⟩)⟩)
                              exact ihr _ (by omega) (r + 1) 0 Q32 rfl (by omega) hstep.m01 hstep
                        · refine x_aload_n d_P_prepare_313 0 rfl rfl ?_
                          refine x_getc 30 9 40 40 fl_P_30 tk_23_9 (hM.at 0 rfl) rfl rfl d_P_prepare_314 ?_
                          refine x_iload d_P_prepare_317 rfl ?_
                          refine x_zald 40 (R2 40 (R 35 r)) (hM.at 7 rfl) rfl ⟨by decide, rfl, by decide⟩ rfl (by omega) rfl d_P_prepare_319 ?_
                          refine x_if_ne (tgt := 327) d_P_prepare_320 rfl (by omega) (fun c320 => ?_) (fun c320 => ?_)
                          · refine x_iconst d_P_prepare_327 ?_
                            refine x_istore_n d_P_prepare_328 1 rfl [some (.ref ((σ 30).1)), some (vi 0), some (vi r), some (vi (bgs R2 0 (4 * r + R2 36 r - (4 * r + 0)).toNat (4 * r + 0))), some (vi 0), some (vi (R 35 r))] rfl rfl (lr rfl) ?_
                            refine x_aload_n d_P_prepare_329 0 rfl rfl ?_
                            refine x_getc 30 10 41 41 fl_P_33 tk_23_10 (hM.at 0 rfl) rfl rfl d_P_prepare_330 ?_
                            refine x_iload d_P_prepare_333 rfl ?_
                            refine x_aload_n d_P_prepare_335 0 rfl rfl ?_
                            refine x_getc 30 10 41 41 fl_P_33 tk_23_10 (hM.at 0 rfl) rfl rfl d_P_prepare_336 ?_
                            refine x_iload d_P_prepare_339 rfl ?_
                            refine x_iald 41 (R2 41 (R 35 r)) (hM.at 8 rfl) rfl ⟨by decide, rfl, by decide⟩ rfl (by omega) rfl d_P_prepare_341 ?_
                            refine x_iload_n d_P_prepare_342 3 rfl rfl ?_
                            refine x_ior d_P_prepare_343 (ior (R2 41 (R 35 r)) (bgs R2 0 (4 * r + R2 36 r - (4 * r + 0)).toNat (4 * r + 0))) (iI_ior g41 hset0) ?_
                            refine x_iast 41 (hM.at 8 rfl) rfl ⟨by decide, rfl, by decide⟩ rfl (by omega) d_P_prepare_344 (fun Q33 hQ33 => ?_)
                            refine x_aload_n d_P_prepare_345 0 rfl rfl ?_
                            refine x_getc 30 9 40 40 fl_P_30 tk_23_9 (hM.at 0 rfl) rfl rfl d_P_prepare_346 ?_
                            refine x_iload d_P_prepare_349 rfl ?_
                            refine x_aload_n d_P_prepare_351 0 rfl rfl ?_
                            refine x_getc 30 9 40 40 fl_P_30 tk_23_9 (hM.at 0 rfl) rfl rfl d_P_prepare_352 ?_
                            refine x_iload d_P_prepare_355 rfl ?_
                            refine x_zald 40 (R2 40 (R 35 r)) (hM.at 7 rfl) rfl ⟨by decide, rfl, by decide⟩ rfl (by omega) (xr_o hQ33 (by decide)) d_P_prepare_357 ?_
                            refine x_if_ne (tgt := 366) d_P_prepare_358 rfl (by omega) (fun c358 => ?_) (fun c358 => ?_)
                            · refine x_iconst d_P_prepare_366 ?_
                              refine x_goto (tgt := 371) d_P_prepare_367 rfl ?_
                              refine x_zast 40 (hM.at 7 rfl) rfl ⟨by decide, rfl, by decide⟩ rfl (by omega) (narz (by omega)) d_P_prepare_371 (fun Q34 hQ34 => ?_)
                              refine x_iinc d_P_prepare_372 rfl [some (.ref ((σ 30).1)), some (vi 0), some (vi (r + 1)), some (vi (bgs R2 0 (4 * r + R2 36 r - (4 * r + 0)).toNat (4 * r + 0))), some (vi 0), some (vi (R 35 r))] rfl rfl (lr rfl) ?_
                              refine x_goto (tgt := 223) d_P_prepare_375 rfl ?_
                              refine V.forget 3 [some (.ref ((σ 30).1)), some (vi 0), some (vi (r + 1)), none, some (vi 0), some (vi (R 35 r))] rfl ?_
                              refine V.forget 4 [some (.ref ((σ 30).1)), some (vi 0), some (vi (r + 1)), none, none, some (vi (R 35 r))] rfl ?_
                              refine V.forget 5 [some (.ref ((σ 30).1)), some (vi 0), some (vi (r + 1)), none, none, none] rfl ?_
                              have hstep := mP2.step (more' := 0) hg hpa2 ⟨by omega, by omega⟩ hset hnone hQ33 hQ34 (by first | exact Or.inl ⟨rfl, by omega, by omega⟩ | exact Or.inr ⟨rfl, Or.inl (by omega)⟩ | exact Or.inr ⟨rfl, Or.inr (by omega)⟩) (by first | exact Or.inl ⟨rfl, by omega, by omega, Or.inl (by omega)⟩ | exact Or.inl ⟨rfl, by omega, by omega, Or.inr (by omega)⟩ | exact Or.inr ⟨rfl, Or.inl (by omega)⟩ | exact Or.inr ⟨rfl, Or.inr (Or.inl (by omega))⟩ | exact Or.inr ⟨rfl, Or.inr (Or.inr ⟨by omega, by omega⟩)⟩)
                              exact ihr _ (by omega) (r + 1) 0 Q34 rfl (by omega) hstep.m01 hstep
                            · refine x_iload d_P_prepare_361 rfl ?_
                              refine x_if_eq (tgt := 370) d_P_prepare_363 rfl (by omega) (fun c363 => ?_) (fun c363 => ?_)
                              · refine x_iconst d_P_prepare_370 ?_
                                refine x_zast 40 (hM.at 7 rfl) rfl ⟨by decide, rfl, by decide⟩ rfl (by omega) (narz (by omega)) d_P_prepare_371 (fun Q35 hQ35 => ?_)
                                refine x_iinc d_P_prepare_372 rfl [some (.ref ((σ 30).1)), some (vi 0), some (vi (r + 1)), some (vi (bgs R2 0 (4 * r + R2 36 r - (4 * r + 0)).toNat (4 * r + 0))), some (vi 0), some (vi (R 35 r))] rfl rfl (lr rfl) ?_
                                refine x_goto (tgt := 223) d_P_prepare_375 rfl ?_
                                refine V.forget 3 [some (.ref ((σ 30).1)), some (vi 0), some (vi (r + 1)), none, some (vi 0), some (vi (R 35 r))] rfl ?_
                                refine V.forget 4 [some (.ref ((σ 30).1)), some (vi 0), some (vi (r + 1)), none, none, some (vi (R 35 r))] rfl ?_
                                refine V.forget 5 [some (.ref ((σ 30).1)), some (vi 0), some (vi (r + 1)), none, none, none] rfl ?_
                                have hstep := mP2.step (more' := 0) hg hpa2 ⟨by omega, by omega⟩ hset hnone hQ33 hQ35 (by first | exact Or.inl ⟨rfl, by omega, by omega⟩ | exact Or.inr ⟨rfl, Or.inl (by omega)⟩ | exact Or.inr ⟨rfl, Or.inr (by omega)⟩) (by first | exact Or.inl ⟨rfl, by omega, by omega, Or.inl (by omega)⟩ | exact Or.inl ⟨rfl, by omega, by omega, Or.inr (by omega)⟩ | exact Or.inr ⟨rfl, Or.inl (by omega)⟩ | exact Or.inr ⟨rfl, Or.inr (Or.inl (by omega))⟩ | exact Or.inr ⟨rfl, Or.inr (Or.inr ⟨by omega, by omega⟩)⟩)
                                exact ihr _ (by omega) (r + 1) 0 Q35 rfl (by omega) hstep.m01 hstep
                              · refine x_iconst d_P_prepare_366 ?_
                                refine x_goto (tgt := 371) d_P_prepare_367 rfl ?_
                                refine x_zast 40 (hM.at 7 rfl) rfl ⟨by decide, rfl, by decide⟩ rfl (by omega) (narz (by omega)) d_P_prepare_371 (fun Q36 hQ36 => ?_)
                                refine x_iinc d_P_prepare_372 rfl [some (.ref ((σ 30).1)), some (vi 0), some (vi (r + 1)), some (vi (bgs R2 0 (4 * r + R2 36 r - (4 * r + 0)).toNat (4 * r + 0))), some (vi 0), some (vi (R 35 r))] rfl rfl (lr rfl) ?_
                                refine x_goto (tgt := 223) d_P_prepare_375 rfl ?_
                                refine V.forget 3 [some (.ref ((σ 30).1)), some (vi 0), some (vi (r + 1)), none, some (vi 0), some (vi (R 35 r))] rfl ?_
                                refine V.forget 4 [some (.ref ((σ 30).1)), some (vi 0), some (vi (r + 1)), none, none, some (vi (R 35 r))] rfl ?_
                                refine V.forget 5 [some (.ref ((σ 30).1)), some (vi 0), some (vi (r + 1)), none, none, none] rfl ?_
                                have hstep := mP2.step (more' := 0) hg hpa2 ⟨by omega, by omega⟩ hset hnone hQ33 hQ36 (by first | exact Or.inl ⟨rfl, by omega, by omega⟩ | exact Or.inr ⟨rfl, Or.inl (by omega)⟩ | exact Or.inr ⟨rfl, Or.inr (by omega)⟩) (by first | exact Or.inl ⟨rfl, by omega, by omega, Or.inl (by omega)⟩ | exact Or.inl ⟨rfl, by omega, by omega, Or.inr (by omega)⟩ | exact Or.inr ⟨rfl, Or.inl (by omega)⟩ | exact Or.inr ⟨rfl, Or.inr (Or.inl (by omega))⟩ | exact Or.inr ⟨rfl, Or.inr (Or.inr ⟨by omega, by omega⟩)⟩)
                                exact ihr _ (by omega) (r + 1) 0 Q36 rfl (by omega) hstep.m01 hstep
                          · refine x_iconst d_P_prepare_323 ?_
                            refine x_goto (tgt := 328) d_P_prepare_324 rfl ?_
                            refine x_istore_n d_P_prepare_328 1 rfl [some (.ref ((σ 30).1)), some (vi 1), some (vi r), some (vi (bgs R2 0 (4 * r + R2 36 r - (4 * r + 0)).toNat (4 * r + 0))), some (vi 0), some (vi (R 35 r))] rfl rfl (lr rfl) ?_
                            refine x_aload_n d_P_prepare_329 0 rfl rfl ?_
                            refine x_getc 30 10 41 41 fl_P_33 tk_23_10 (hM.at 0 rfl) rfl rfl d_P_prepare_330 ?_
                            refine x_iload d_P_prepare_333 rfl ?_
                            refine x_aload_n d_P_prepare_335 0 rfl rfl ?_
                            refine x_getc 30 10 41 41 fl_P_33 tk_23_10 (hM.at 0 rfl) rfl rfl d_P_prepare_336 ?_
                            refine x_iload d_P_prepare_339 rfl ?_
                            refine x_iald 41 (R2 41 (R 35 r)) (hM.at 8 rfl) rfl ⟨by decide, rfl, by decide⟩ rfl (by omega) rfl d_P_prepare_341 ?_
                            refine x_iload_n d_P_prepare_342 3 rfl rfl ?_
                            refine x_ior d_P_prepare_343 (ior (R2 41 (R 35 r)) (bgs R2 0 (4 * r + R2 36 r - (4 * r + 0)).toNat (4 * r + 0))) (iI_ior g41 hset0) ?_
                            refine x_iast 41 (hM.at 8 rfl) rfl ⟨by decide, rfl, by decide⟩ rfl (by omega) d_P_prepare_344 (fun Q37 hQ37 => ?_)
                            refine x_aload_n d_P_prepare_345 0 rfl rfl ?_
                            refine x_getc 30 9 40 40 fl_P_30 tk_23_9 (hM.at 0 rfl) rfl rfl d_P_prepare_346 ?_
                            refine x_iload d_P_prepare_349 rfl ?_
                            refine x_aload_n d_P_prepare_351 0 rfl rfl ?_
                            refine x_getc 30 9 40 40 fl_P_30 tk_23_9 (hM.at 0 rfl) rfl rfl d_P_prepare_352 ?_
                            refine x_iload d_P_prepare_355 rfl ?_
                            refine x_zald 40 (R2 40 (R 35 r)) (hM.at 7 rfl) rfl ⟨by decide, rfl, by decide⟩ rfl (by omega) (xr_o hQ37 (by decide)) d_P_prepare_357 ?_
                            refine x_if_ne (tgt := 366) d_P_prepare_358 rfl (by omega) (fun c358 => ?_) (fun c358 => ?_)
                            · refine x_iconst d_P_prepare_366 ?_
                              refine x_goto (tgt := 371) d_P_prepare_367 rfl ?_
                              refine x_zast 40 (hM.at 7 rfl) rfl ⟨by decide, rfl, by decide⟩ rfl (by omega) (narz (by omega)) d_P_prepare_371 (fun Q38 hQ38 => ?_)
                              refine x_iinc d_P_prepare_372 rfl [some (.ref ((σ 30).1)), some (vi 1), some (vi (r + 1)), some (vi (bgs R2 0 (4 * r + R2 36 r - (4 * r + 0)).toNat (4 * r + 0))), some (vi 0), some (vi (R 35 r))] rfl rfl (lr rfl) ?_
                              refine x_goto (tgt := 223) d_P_prepare_375 rfl ?_
                              refine V.forget 3 [some (.ref ((σ 30).1)), some (vi 1), some (vi (r + 1)), none, some (vi 0), some (vi (R 35 r))] rfl ?_
                              refine V.forget 4 [some (.ref ((σ 30).1)), some (vi 1), some (vi (r + 1)), none, none, some (vi (R 35 r))] rfl ?_
                              refine V.forget 5 [some (.ref ((σ 30).1)), some (vi 1), some (vi (r + 1)), none, none, none] rfl ?_
                              have hstep := mP2.step (more' := 1) hg hpa2 ⟨by omega, by omega⟩ hset hnone hQ37 hQ38 (by first | exact Or.inl ⟨rfl, by omega, by omega⟩ | exact Or.inr ⟨rfl, Or.inl (by omega)⟩ | exact Or.inr ⟨rfl, Or.inr (by omega)⟩) (by first | exact Or.inl ⟨rfl, by omega, by omega, Or.inl (by omega)⟩ | exact Or.inl ⟨rfl, by omega, by omega, Or.inr (by omega)⟩ | exact Or.inr ⟨rfl, Or.inl (by omega)⟩ | exact Or.inr ⟨rfl, Or.inr (Or.inl (by omega))⟩ | exact Or.inr ⟨rfl, Or.inr (Or.inr ⟨by omega, by omega⟩)⟩)
                              exact ihr _ (by omega) (r + 1) 1 Q38 rfl (by omega) hstep.m01 hstep
                            · refine x_iload d_P_prepare_361 rfl ?_
                              refine x_if_eq (tgt := 370) d_P_prepare_363 rfl (by omega) (fun c363 => ?_) (fun c363 => ?_)
                              · refine x_iconst d_P_prepare_370 ?_
                                refine x_zast 40 (hM.at 7 rfl) rfl ⟨by decide, rfl, by decide⟩ rfl (by omega) (narz (by omega)) d_P_prepare_371 (fun Q39 hQ39 => ?_)
                                refine x_iinc d_P_prepare_372 rfl [some (.ref ((σ 30).1)), some (vi 1), some (vi (r + 1)), some (vi (bgs R2 0 (4 * r + R2 36 r - (4 * r + 0)).toNat (4 * r + 0))), some (vi 0), some (vi (R 35 r))] rfl rfl (lr rfl) ?_
                                refine x_goto (tgt := 223) d_P_prepare_375 rfl ?_
                                refine V.forget 3 [some (.ref ((σ 30).1)), some (vi 1), some (vi (r + 1)), none, some (vi 0), some (vi (R 35 r))] rfl ?_
                                refine V.forget 4 [some (.ref ((σ 30).1)), some (vi 1), some (vi (r + 1)), none, none, some (vi (R 35 r))] rfl ?_
                                refine V.forget 5 [some (.ref ((σ 30).1)), some (vi 1), some (vi (r + 1)), none, none, none] rfl ?_
                                have hstep := mP2.step (more' := 1) hg hpa2 ⟨by omega, by omega⟩ hset hnone hQ37 hQ39 (by first | exact Or.inl ⟨rfl, by omega, by omega⟩ | exact Or.inr ⟨rfl, Or.inl (by omega)⟩ | exact Or.inr ⟨rfl, Or.inr (by omega)⟩) (by first | exact Or.inl ⟨rfl, by omega, by omega, Or.inl (by omega)⟩ | exact Or.inl ⟨rfl, by omega, by omega, Or.inr (by omega)⟩ | exact Or.inr ⟨rfl, Or.inl (by omega)⟩ | exact Or.inr ⟨rfl, Or.inr (Or.inl (by omega))⟩ | exact Or.inr ⟨rfl, Or.inr (Or.inr ⟨by omega, by omega⟩)⟩)
                                exact ihr _ (by omega) (r + 1) 1 Q39 rfl (by omega) hstep.m01 hstep
                              · refine x_iconst d_P_prepare_366 ?_
                                refine x_goto (tgt := 371) d_P_prepare_367 rfl ?_
                                refine x_zast 40 (hM.at 7 rfl) rfl ⟨by decide, rfl, by decide⟩ rfl (by omega) (narz (by omega)) d_P_prepare_371 (fun Q40 hQ40 => ?_)
                                refine x_iinc d_P_prepare_372 rfl [some (.ref ((σ 30).1)), some (vi 1), some (vi (r + 1)), some (vi (bgs R2 0 (4 * r + R2 36 r - (4 * r + 0)).toNat (4 * r + 0))), some (vi 0), some (vi (R 35 r))] rfl rfl (lr rfl) ?_
                                refine x_goto (tgt := 223) d_P_prepare_375 rfl ?_
                                refine V.forget 3 [some (.ref ((σ 30).1)), some (vi 1), some (vi (r + 1)), none, some (vi 0), some (vi (R 35 r))] rfl ?_
                                refine V.forget 4 [some (.ref ((σ 30).1)), some (vi 1), some (vi (r + 1)), none, none, some (vi (R 35 r))] rfl ?_
                                refine V.forget 5 [some (.ref ((σ 30).1)), some (vi 1), some (vi (r + 1)), none, none, none] rfl ?_
                                have hstep := mP2.step (more' := 1) hg hpa2 ⟨by omega, by omega⟩ hset hnone hQ37 hQ40 (by first | exact Or.inl ⟨rfl, by omega, by omega⟩ | exact Or.inr ⟨rfl, Or.inl (by omega)⟩ | exact Or.inr ⟨rfl, Or.inr (by omega)⟩) (by first | exact Or.inl ⟨rfl, by omega, by omega, Or.inl (by omega)⟩ | exact Or.inl ⟨rfl, by omega, by omega, Or.inr (by omega)⟩ | exact Or.inr ⟨rfl, Or.inl (by omega)⟩ | exact Or.inr ⟨rfl, Or.inr (Or.inl (by omega))⟩ | exact Or.inr ⟨rfl, Or.inr (Or.inr ⟨by omega, by omega⟩)⟩)
                                exact ihr _ (by omega) (r + 1) 1 Q40 rfl (by omega) hstep.m01 hstep
                  · refine x_iconst d_P_prepare_270 ?_
                    refine x_goto (tgt := 275) d_P_prepare_271 rfl ?_
                    refine x_istore d_P_prepare_275 [some (.ref ((σ 30).1)), some (vi more2), some (vi r), some (vi (bgs R2 0 (4 * r + R2 36 r - (4 * r + 0)).toNat (4 * r + 0))), some (vi 1), none] rfl rfl (lr rfl) ?_
                    have hnone : ((1 : Int) = 0 ∧ (R2 38 r = 0 ∨ ¬ (∀ j, 4 * r + 0 ≤ j → j < 4 * r + R2 36 r → mE R2 j))) ∨ ((1 : Int) = 1 ∧ R2 38 r ≠ 0 ∧ ∀ j, 4 * r + 0 ≤ j → j < 4 * r + R2 36 r → mE R2 j) := Or.inr ⟨rfl, c237, zc_ne.mp c267⟩
                    refine x_aload_n d_P_prepare_277 0 rfl rfl ?_
                    refine x_getc 30 4 35 35 fl_P_13 tk_23_4 (hM.at 0 rfl) rfl rfl d_P_prepare_278 ?_
                    refine x_iload_n d_P_prepare_281 2 rfl rfl ?_
                    refine x_iald 35 (R 35 r) (hM.at 2 rfl) rfl ⟨by decide, rfl, by decide⟩ rfl (by omega) (hpa2.1.1 35 r (by decide)) d_P_prepare_282 ?_
                    refine x_istore d_P_prepare_283 [some (.ref ((σ 30).1)), some (vi more2), some (vi r), some (vi (bgs R2 0 (4 * r + R2 36 r - (4 * r + 0)).toNat (4 * r + 0))), some (vi 1), some (vi (R 35 r))] rfl rfl (lr rfl) ?_
                    refine x_iload_n d_P_prepare_285 1 rfl rfl ?_
                    refine x_if_ne (tgt := 323) d_P_prepare_286 rfl (by omega) (fun c286 => ?_) (fun c286 => ?_)
                    · refine x_iconst d_P_prepare_323 ?_
                      refine x_goto (tgt := 328) d_P_prepare_324 rfl ?_
                      refine x_istore_n d_P_prepare_328 1 rfl [some (.ref ((σ 30).1)), some (vi 1), some (vi r), some (vi (bgs R2 0 (4 * r + R2 36 r - (4 * r + 0)).toNat (4 * r + 0))), some (vi 1), some (vi (R 35 r))] rfl rfl (lr rfl) ?_
                      refine x_aload_n d_P_prepare_329 0 rfl rfl ?_
                      refine x_getc 30 10 41 41 fl_P_33 tk_23_10 (hM.at 0 rfl) rfl rfl d_P_prepare_330 ?_
                      refine x_iload d_P_prepare_333 rfl ?_
                      refine x_aload_n d_P_prepare_335 0 rfl rfl ?_
                      refine x_getc 30 10 41 41 fl_P_33 tk_23_10 (hM.at 0 rfl) rfl rfl d_P_prepare_336 ?_
                      refine x_iload d_P_prepare_339 rfl ?_
                      refine x_iald 41 (R2 41 (R 35 r)) (hM.at 8 rfl) rfl ⟨by decide, rfl, by decide⟩ rfl (by omega) rfl d_P_prepare_341 ?_
                      refine x_iload_n d_P_prepare_342 3 rfl rfl ?_
                      refine x_ior d_P_prepare_343 (ior (R2 41 (R 35 r)) (bgs R2 0 (4 * r + R2 36 r - (4 * r + 0)).toNat (4 * r + 0))) (iI_ior g41 hset0) ?_
                      refine x_iast 41 (hM.at 8 rfl) rfl ⟨by decide, rfl, by decide⟩ rfl (by omega) d_P_prepare_344 (fun Q41 hQ41 => ?_)
                      refine x_aload_n d_P_prepare_345 0 rfl rfl ?_
                      refine x_getc 30 9 40 40 fl_P_30 tk_23_9 (hM.at 0 rfl) rfl rfl d_P_prepare_346 ?_
                      refine x_iload d_P_prepare_349 rfl ?_
                      refine x_aload_n d_P_prepare_351 0 rfl rfl ?_
                      refine x_getc 30 9 40 40 fl_P_30 tk_23_9 (hM.at 0 rfl) rfl rfl d_P_prepare_352 ?_
                      refine x_iload d_P_prepare_355 rfl ?_
                      refine x_zald 40 (R2 40 (R 35 r)) (hM.at 7 rfl) rfl ⟨by decide, rfl, by decide⟩ rfl (by omega) (xr_o hQ41 (by decide)) d_P_prepare_357 ?_
                      refine x_if_ne (tgt := 366) d_P_prepare_358 rfl (by omega) (fun c358 => ?_) (fun c358 => ?_)
                      · refine x_iconst d_P_prepare_366 ?_
                        refine x_goto (tgt := 371) d_P_prepare_367 rfl ?_
                        refine x_zast 40 (hM.at 7 rfl) rfl ⟨by decide, rfl, by decide⟩ rfl (by omega) (narz (by omega)) d_P_prepare_371 (fun Q42 hQ42 => ?_)
                        refine x_iinc d_P_prepare_372 rfl [some (.ref ((σ 30).1)), some (vi 1), some (vi (r + 1)), some (vi (bgs R2 0 (4 * r + R2 36 r - (4 * r + 0)).toNat (4 * r + 0))), some (vi 1), some (vi (R 35 r))] rfl rfl (lr rfl) ?_
                        refine x_goto (tgt := 223) d_P_prepare_375 rfl ?_
                        refine V.forget 3 [some (.ref ((σ 30).1)), some (vi 1), some (vi (r + 1)), none, some (vi 1), some (vi (R 35 r))] rfl ?_
                        refine V.forget 4 [some (.ref ((σ 30).1)), some (vi 1), some (vi (r + 1)), none, none, some (vi (R 35 r))] rfl ?_
                        refine V.forget 5 [some (.ref ((σ 30).1)), some (vi 1), some (vi (r + 1)), none, none, none] rfl ?_
                        have hstep := mP2.step (more' := 1) hg hpa2 ⟨by omega, by omega⟩ hset hnone hQ41 hQ42 (by first | exact Or.inl ⟨rfl, by omega, by omega⟩ | exact Or.inr ⟨rfl, Or.inl (by omega)⟩ | exact Or.inr ⟨rfl, Or.inr (by omega)⟩) (by first | exact Or.inl ⟨rfl, by omega, by omega, Or.inl (by omega)⟩ | exact Or.inl ⟨rfl, by omega, by omega, Or.inr (by omega)⟩ | exact Or.inr ⟨rfl, Or.inl (by omega)⟩ | exact Or.inr ⟨rfl, Or.inr (Or.inl (by omega))⟩ | exact Or.inr ⟨rfl, Or.inr (Or.inr ⟨by omega, by omega⟩)⟩)
                        exact ihr _ (by omega) (r + 1) 1 Q42 rfl (by omega) hstep.m01 hstep
                      · refine x_iload d_P_prepare_361 rfl ?_
                        refine x_if_eq (tgt := 370) d_P_prepare_363 rfl (by omega) (fun c363 => ?_) (fun c363 => ?_)
                        · refine x_iconst d_P_prepare_370 ?_
                          refine x_zast 40 (hM.at 7 rfl) rfl ⟨by decide, rfl, by decide⟩ rfl (by omega) (narz (by omega)) d_P_prepare_371 (fun Q43 hQ43 => ?_)
                          refine x_iinc d_P_prepare_372 rfl [some (.ref ((σ 30).1)), some (vi 1), some (vi (r + 1)), some (vi (bgs R2 0 (4 * r + R2 36 r - (4 * r + 0)).toNat (4 * r + 0))), some (vi 1), some (vi (R 35 r))] rfl rfl (lr rfl) ?_
                          refine x_goto (tgt := 223) d_P_prepare_375 rfl ?_
                          refine V.forget 3 [some (.ref ((σ 30).1)), some (vi 1), some (vi (r + 1)), none, some (vi 1), some (vi (R 35 r))] rfl ?_
                          refine V.forget 4 [some (.ref ((σ 30).1)), some (vi 1), some (vi (r + 1)), none, none, some (vi (R 35 r))] rfl ?_
                          refine V.forget 5 [some (.ref ((σ 30).1)), some (vi 1), some (vi (r + 1)), none, none, none] rfl ?_
                          have hstep := mP2.step (more' := 1) hg hpa2 ⟨by omega, by omega⟩ hset hnone hQ41 hQ43 (by first | exact Or.inl ⟨rfl, by omega, by omega⟩ | exact Or.inr ⟨rfl, Or.inl (by omega)⟩ | exact Or.inr ⟨rfl, Or.inr (by omega)⟩) (by first | exact Or.inl ⟨rfl, by omega, by omega, Or.inl (by omega)⟩ | exact Or.inl ⟨rfl, by omega, by omega, Or.inr (by omega)⟩ | exact Or.inr ⟨rfl, Or.inl (by omega)⟩ | exact Or.inr ⟨rfl, Or.inr (Or.inl (by omega))⟩ | exact Or.inr ⟨rfl, Or.inr (Or.inr ⟨by omega, by omega⟩)⟩)
                          exact ihr _ (by omega) (r + 1) 1 Q43 rfl (by omega) hstep.m01 hstep
                        · refine x_iconst d_P_prepare_366 ?_
                          refine x_goto (tgt := 371) d_P_prepare_367 rfl ?_
                          refine x_zast 40 (hM.at 7 rfl) rfl ⟨by decide, rfl, by decide⟩ rfl (by omega) (narz (by omega)) d_P_prepare_371 (fun Q44 hQ44 => ?_)
                          refine x_iinc d_P_prepare_372 rfl [some (.ref ((σ 30).1)), some (vi 1), some (vi (r + 1)), some (vi (bgs R2 0 (4 * r + R2 36 r - (4 * r + 0)).toNat (4 * r + 0))), some (vi 1), some (vi (R 35 r))] rfl rfl (lr rfl) ?_
                          refine x_goto (tgt := 223) d_P_prepare_375 rfl ?_
                          refine V.forget 3 [some (.ref ((σ 30).1)), some (vi 1), some (vi (r + 1)), none, some (vi 1), some (vi (R 35 r))] rfl ?_
                          refine V.forget 4 [some (.ref ((σ 30).1)), some (vi 1), some (vi (r + 1)), none, none, some (vi (R 35 r))] rfl ?_
                          refine V.forget 5 [some (.ref ((σ 30).1)), some (vi 1), some (vi (r + 1)), none, none, none] rfl ?_
                          have hstep := mP2.step (more' := 1) hg hpa2 ⟨by omega, by omega⟩ hset hnone hQ41 hQ44 (by first | exact Or.inl ⟨rfl, by omega, by omega⟩ | exact Or.inr ⟨rfl, Or.inl (by omega)⟩ | exact Or.inr ⟨rfl, Or.inr (by omega)⟩) (by first | exact Or.inl ⟨rfl, by omega, by omega, Or.inl (by omega)⟩ | exact Or.inl ⟨rfl, by omega, by omega, Or.inr (by omega)⟩ | exact Or.inr ⟨rfl, Or.inl (by omega)⟩ | exact Or.inr ⟨rfl, Or.inr (Or.inl (by omega))⟩ | exact Or.inr ⟨rfl, Or.inr (Or.inr ⟨by omega, by omega⟩)⟩)
                          exact ihr _ (by omega) (r + 1) 1 Q44 rfl (by omega) hstep.m01 hstep
                    · refine x_iload_n d_P_prepare_289 3 rfl rfl ?_
                      refine x_aload_n d_P_prepare_290 0 rfl rfl ?_
                      refine x_getc 30 10 41 41 fl_P_33 tk_23_10 (hM.at 0 rfl) rfl rfl d_P_prepare_291 ?_
                      refine x_iload d_P_prepare_294 rfl ?_
                      refine x_iald 41 (R2 41 (R 35 r)) (hM.at 8 rfl) rfl ⟨by decide, rfl, by decide⟩ rfl (by omega) rfl d_P_prepare_296 ?_
                      refine x_ior d_P_prepare_297 (ior (bgs R2 0 (4 * r + R2 36 r - (4 * r + 0)).toNat (4 * r + 0)) (R2 41 (R 35 r))) (iI_ior hset0 g41) ?_
                      refine x_aload_n d_P_prepare_298 0 rfl rfl ?_
                      refine x_getc 30 10 41 41 fl_P_33 tk_23_10 (hM.at 0 rfl) rfl rfl d_P_prepare_299 ?_
                      refine x_iload d_P_prepare_302 rfl ?_
                      refine x_iald 41 (R2 41 (R 35 r)) (hM.at 8 rfl) rfl ⟨by decide, rfl, by decide⟩ rfl (by omega) rfl d_P_prepare_304 ?_
                      refine x_icmp_ne (tgt := 323) d_P_prepare_305 rfl (by have q := ior_s7 hs77 g40.2; have := q.1; have := q.2; omega) (by have := g40.2.2; omega) (fun c305 => ?_) (fun c305 => ?_)
                      · refine x_iconst d_P_prepare_323 ?_
                        refine x_goto (tgt := 328) d_P_prepare_324 rfl ?_
                        refine x_istore_n d_P_prepare_328 1 rfl [some (.ref ((σ 30).1)), some (vi 1), some (vi r), some (vi (bgs R2 0 (4 * r + R2 36 r - (4 * r + 0)).toNat (4 * r + 0))), some (vi 1), some (vi (R 35 r))] rfl rfl (lr rfl) ?_
                        refine x_aload_n d_P_prepare_329 0 rfl rfl ?_
                        refine x_getc 30 10 41 41 fl_P_33 tk_23_10 (hM.at 0 rfl) rfl rfl d_P_prepare_330 ?_
                        refine x_iload d_P_prepare_333 rfl ?_
                        refine x_aload_n d_P_prepare_335 0 rfl rfl ?_
                        refine x_getc 30 10 41 41 fl_P_33 tk_23_10 (hM.at 0 rfl) rfl rfl d_P_prepare_336 ?_
                        refine x_iload d_P_prepare_339 rfl ?_
                        refine x_iald 41 (R2 41 (R 35 r)) (hM.at 8 rfl) rfl ⟨by decide, rfl, by decide⟩ rfl (by omega) rfl d_P_prepare_341 ?_
                        refine x_iload_n d_P_prepare_342 3 rfl rfl ?_
                        refine x_ior d_P_prepare_343 (ior (R2 41 (R 35 r)) (bgs R2 0 (4 * r + R2 36 r - (4 * r + 0)).toNat (4 * r + 0))) (iI_ior g41 hset0) ?_
                        refine x_iast 41 (hM.at 8 rfl) rfl ⟨by decide, rfl, by decide⟩ rfl (by omega) d_P_prepare_344 (fun Q45 hQ45 => ?_)
                        refine x_aload_n d_P_prepare_345 0 rfl rfl ?_
                        refine x_getc 30 9 40 40 fl_P_30 tk_23_9 (hM.at 0 rfl) rfl rfl d_P_prepare_346 ?_
                        refine x_iload d_P_prepare_349 rfl ?_
                        refine x_aload_n d_P_prepare_351 0 rfl rfl ?_
                        refine x_getc 30 9 40 40 fl_P_30 tk_23_9 (hM.at 0 rfl) rfl rfl d_P_prepare_352 ?_
                        refine x_iload d_P_prepare_355 rfl ?_
                        refine x_zald 40 (R2 40 (R 35 r)) (hM.at 7 rfl) rfl ⟨by decide, rfl, by decide⟩ rfl (by omega) (xr_o hQ45 (by decide)) d_P_prepare_357 ?_
                        refine x_if_ne (tgt := 366) d_P_prepare_358 rfl (by omega) (fun c358 => ?_) (fun c358 => ?_)
                        · refine x_iconst d_P_prepare_366 ?_
                          refine x_goto (tgt := 371) d_P_prepare_367 rfl ?_
                          refine x_zast 40 (hM.at 7 rfl) rfl ⟨by decide, rfl, by decide⟩ rfl (by omega) (narz (by omega)) d_P_prepare_371 (fun Q46 hQ46 => ?_)
                          refine x_iinc d_P_prepare_372 rfl [some (.ref ((σ 30).1)), some (vi 1), some (vi (r + 1)), some (vi (bgs R2 0 (4 * r + R2 36 r - (4 * r + 0)).toNat (4 * r + 0))), some (vi 1), some (vi (R 35 r))] rfl rfl (lr rfl) ?_
                          refine x_goto (tgt := 223) d_P_prepare_375 rfl ?_
                          refine V.forget 3 [some (.ref ((σ 30).1)), some (vi 1), some (vi (r + 1)), none, some (vi 1), some (vi (R 35 r))] rfl ?_
                          refine V.forget 4 [some (.ref ((σ 30).1)), some (vi 1), some (vi (r + 1)), none, none, some (vi (R 35 r))] rfl ?_
                          refine V.forget 5 [some (.ref ((σ 30).1)), some (vi 1), some (vi (r + 1)), none, none, none] rfl ?_
                          have hstep := mP2.step (more' := 1) hg hpa2 ⟨by omega, by omega⟩ hset hnone hQ45 hQ46 (by first | exact Or.inl ⟨rfl, by omega, by omega⟩ | exact Or.inr ⟨rfl, Or.inl (by omega)⟩ | exact Or.inr ⟨rfl, Or.inr (by omega)⟩) (by first | exact Or.inl ⟨rfl, by omega, by omega, Or.inl (by omega)⟩ | exact Or.inl ⟨rfl, by omega, by omega, Or.inr (by omega)⟩ | exact Or.inr ⟨rfl, Or.inl (by omega)⟩ | exact Or.inr ⟨rfl, Or.inr (Or.inl (by omega))⟩ | exact Or.inr ⟨rfl, Or.inr (Or.inr ⟨by omega, by omega⟩)⟩)
                          exact ihr _ (by omega) (r + 1) 1 Q46 rfl (by omega) hstep.m01 hstep
                        · refine x_iload d_P_prepare_361 rfl ?_
                          refine x_if_eq (tgt := 370) d_P_prepare_363 rfl (by omega) (fun c363 => ?_) (fun c363 => ?_)
                          · refine x_iconst d_P_prepare_370 ?_
                            refine x_zast 40 (hM.at 7 rfl) rfl ⟨by decide, rfl, by decide⟩ rfl (by omega) (narz (by omega)) d_P_prepare_371 (fun Q47 hQ47 => ?_)
                            refine x_iinc d_P_prepare_372 rfl [some (.ref ((σ 30).1)), some (vi 1), some (vi (r + 1)), some (vi (bgs R2 0 (4 * r + R2 36 r - (4 * r + 0)).toNat (4 * r + 0))), some (vi 1), some (vi (R 35 r))] rfl rfl (lr rfl) ?_
                            refine x_goto (tgt := 223) d_P_prepare_375 rfl ?_
                            refine V.forget 3 [some (.ref ((σ 30).1)), some (vi 1), some (vi (r + 1)), none, some (vi 1), some (vi (R 35 r))] rfl ?_
                            refine V.forget 4 [some (.ref ((σ 30).1)), some (vi 1), some (vi (r + 1)), none, none, some (vi (R 35 r))] rfl ?_
                            refine V.forget 5 [some (.ref ((σ 30).1)), some (vi 1), some (vi (r + 1)), none, none, none] rfl ?_
                            have hstep := mP2.step (more' := 1) hg hpa2 ⟨by omega, by omega⟩ hset hnone hQ45 hQ47 (by first | exact Or.inl ⟨rfl, by omega, by omega⟩ | exact Or.inr ⟨rfl, Or.inl (by omega)⟩ | exact Or.inr ⟨rfl, Or.inr (by omega)⟩) (by first | exact Or.inl ⟨rfl, by omega, by omega, Or.inl (by omega)⟩ | exact Or.inl ⟨rfl, by omega, by omega, Or.inr (by omega)⟩ | exact Or.inr ⟨rfl, Or.inl (by omega)⟩ | exact Or.inr ⟨rfl, Or.inr (Or.inl (by omega))⟩ | exact Or.inr ⟨rfl, Or.inr (Or.inr ⟨by omega, by omega⟩)⟩)
                            exact ihr _ (by omega) (r + 1) 1 Q47 rfl (by omega) hstep.m01 hstep
                          · refine x_iconst d_P_prepare_366 ?_
                            refine x_goto (tgt := 371) d_P_prepare_367 rfl ?_
                            refine x_zast 40 (hM.at 7 rfl) rfl ⟨by decide, rfl, by decide⟩ rfl (by omega) (narz (by omega)) d_P_prepare_371 (fun Q48 hQ48 => ?_)
                            refine x_iinc d_P_prepare_372 rfl [some (.ref ((σ 30).1)), some (vi 1), some (vi (r + 1)), some (vi (bgs R2 0 (4 * r + R2 36 r - (4 * r + 0)).toNat (4 * r + 0))), some (vi 1), some (vi (R 35 r))] rfl rfl (lr rfl) ?_
                            refine x_goto (tgt := 223) d_P_prepare_375 rfl ?_
                            refine V.forget 3 [some (.ref ((σ 30).1)), some (vi 1), some (vi (r + 1)), none, some (vi 1), some (vi (R 35 r))] rfl ?_
                            refine V.forget 4 [some (.ref ((σ 30).1)), some (vi 1), some (vi (r + 1)), none, none, some (vi (R 35 r))] rfl ?_
                            refine V.forget 5 [some (.ref ((σ 30).1)), some (vi 1), some (vi (r + 1)), none, none, none] rfl ?_
                            have hstep := mP2.step (more' := 1) hg hpa2 ⟨by omega, by omega⟩ hset hnone hQ45 hQ48 (by first | exact Or.inl ⟨rfl, by omega, by omega⟩ | exact Or.inr ⟨rfl, Or.inl (by omega)⟩ | exact Or.inr ⟨rfl, Or.inr (by omega)⟩) (by first | exact Or.inl ⟨rfl, by omega, by omega, Or.inl (by omega)⟩ | exact Or.inl ⟨rfl, by omega, by omega, Or.inr (by omega)⟩ | exact Or.inr ⟨rfl, Or.inl (by omega)⟩ | exact Or.inr ⟨rfl, Or.inr (Or.inl (by omega))⟩ | exact Or.inr ⟨rfl, Or.inr (Or.inr ⟨by omega, by omega⟩)⟩)
                            exact ihr _ (by omega) (r + 1) 1 Q48 rfl (by omega) hstep.m01 hstep
                      · refine x_iload d_P_prepare_308 rfl ?_
                        refine x_if_eq (tgt := 327) d_P_prepare_310 rfl (by omega) (fun c310 => ?_) (fun c310 => ?_)
                        · refine x_iconst d_P_prepare_327 ?_
                          refine x_istore_n d_P_prepare_328 1 rfl [some (.ref ((σ 30).1)), some (vi 0), some (vi r), some (vi (bgs R2 0 (4 * r + R2 36 r - (4 * r + 0)).toNat (4 * r + 0))), some (vi 1), some (vi (R 35 r))] rfl rfl (lr rfl) ?_
                          refine x_aload_n d_P_prepare_329 0 rfl rfl ?_
                          refine x_getc 30 10 41 41 fl_P_33 tk_23_10 (hM.at 0 rfl) rfl rfl d_P_prepare_330 ?_
                          refine x_iload d_P_prepare_333 rfl ?_
                          refine x_aload_n d_P_prepare_335 0 rfl rfl ?_
                          refine x_getc 30 10 41 41 fl_P_33 tk_23_10 (hM.at 0 rfl) rfl rfl d_P_prepare_336 ?_
                          refine x_iload d_P_prepare_339 rfl ?_
                          refine x_iald 41 (R2 41 (R 35 r)) (hM.at 8 rfl) rfl ⟨by decide, rfl, by decide⟩ rfl (by omega) rfl d_P_prepare_341 ?_
                          refine x_iload_n d_P_prepare_342 3 rfl rfl ?_
                          refine x_ior d_P_prepare_343 (ior (R2 41 (R 35 r)) (bgs R2 0 (4 * r + R2 36 r - (4 * r + 0)).toNat (4 * r + 0))) (iI_ior g41 hset0) ?_
                          refine x_iast 41 (hM.at 8 rfl) rfl ⟨by decide, rfl, by decide⟩ rfl (by omega) d_P_prepare_344 (fun Q49 hQ49 => ?_)
                          refine x_aload_n d_P_prepare_345 0 rfl rfl ?_
                          refine x_getc 30 9 40 40 fl_P_30 tk_23_9 (hM.at 0 rfl) rfl rfl d_P_prepare_346 ?_
                          refine x_iload d_P_prepare_349 rfl ?_
                          refine x_aload_n d_P_prepare_351 0 rfl rfl ?_
                          refine x_getc 30 9 40 40 fl_P_30 tk_23_9 (hM.at 0 rfl) rfl rfl d_P_prepare_352 ?_
                          refine x_iload d_P_prepare_355 rfl ?_
                          refine x_zald 40 (R2 40 (R 35 r)) (hM.at 7 rfl) rfl ⟨by decide, rfl, by decide⟩ rfl (by omega) (xr_o hQ49 (by decide)) d_P_prepare_357 ?_
                          refine x_if_ne (tgt := 366) d_P_prepare_358 rfl (by omega) (fun c358 => ?_) (fun c358 => ?_)
                          · refine x_iconst d_P_prepare_366 ?_
                            refine x_goto (tgt := 371) d_P_prepare_367 rfl ?_
                            refine x_zast 40 (hM.at 7 rfl) rfl ⟨by decide, rfl, by decide⟩ rfl (by omega) (narz (by omega)) d_P_prepare_371 (fun Q50 hQ50 => ?_)
                            refine x_iinc d_P_prepare_372 rfl [some (.ref ((σ 30).1)), some (vi 0), some (vi (r + 1)), some (vi (bgs R2 0 (4 * r + R2 36 r - (4 * r + 0)).toNat (4 * r + 0))), some (vi 1), some (vi (R 35 r))] rfl rfl (lr rfl) ?_
                            refine x_goto (tgt := 223) d_P_prepare_375 rfl ?_
                            refine V.forget 3 [some (.ref ((σ 30).1)), some (vi 0), some (vi (r + 1)), none, some (vi 1), some (vi (R 35 r))] rfl ?_
                            refine V.forget 4 [some (.ref ((σ 30).1)), some (vi 0), some (vi (r + 1)), none, none, some (vi (R 35 r))] rfl ?_
                            refine V.forget 5 [some (.ref ((σ 30).1)), some (vi 0), some (vi (r + 1)), none, none, none] rfl ?_
                            have hstep := mP2.step (more' := 0) hg hpa2 ⟨by omega, by omega⟩ hset hnone hQ49 hQ50 (by first | exact Or.inl ⟨rfl, by omega, by omega⟩ | exact Or.inr ⟨rfl, Or.inl (by omega)⟩ | exact Or.inr ⟨rfl, Or.inr (by omega)⟩) (by first | exact Or.inl ⟨rfl, by omega, by omega, Or.inl (by omega)⟩ | exact Or.inl ⟨rfl, by omega, by omega, Or.inr (by omega)⟩ | exact Or.inr ⟨rfl, Or.inl (by omega)⟩ | exact Or.inr ⟨rfl, Or.inr (Or.inl (by omega))⟩ | exact Or.inr ⟨rfl, Or.inr (Or.inr ⟨by omega, by omega⟩)⟩)
                            exact ihr _ (by omega) (r + 1) 0 Q50 rfl (by omega) hstep.m01 hstep
                          · refine x_iload d_P_prepare_361 rfl ?_
                            refine x_if_eq (tgt := 370) d_P_prepare_363 rfl (by omega) (fun c363 => ?_) (fun c363 => ?_)
                            · refine x_iconst d_P_prepare_370 ?_
                              refine x_zast 40 (hM.at 7 rfl) rfl ⟨by decide, rfl, by decide⟩ rfl (by omega) (narz (by omega)) d_P_prepare_371 (fun Q51 hQ51 => ?_)
                              refine x_iinc d_P_prepare_372 rfl [some (.ref ((σ 30).1)), some (vi 0), some (vi (r + 1)), some (vi (bgs R2 0 (4 * r + R2 36 r - (4 * r + 0)).toNat (4 * r + 0))), some (vi 1), some (vi (R 35 r))] rfl rfl (lr rfl) ?_
                              refine x_goto (tgt := 223) d_P_prepare_375 rfl ?_
                              refine V.forget 3 [some (.ref ((σ 30).1)), some (vi 0), some (vi (r + 1)), none, some (vi 1), some (vi (R 35 r))] rfl ?_
                              refine V.forget 4 [some (.ref ((σ 30).1)), some (vi 0), some (vi (r + 1)), none, none, some (vi (R 35 r))] rfl ?_
                              refine V.forget 5 [some (.ref ((σ 30).1)), some (vi 0), some (vi (r + 1)), none, none, none] rfl ?_
                              have hstep := mP2.step (more' := 0) hg hpa2 ⟨by omega, by omega⟩ hset hnone hQ49 hQ51 (by first | exact Or.inl ⟨rfl, by omega, by omega⟩ | exact Or.inr ⟨rfl, Or.inl (by omega)⟩ | exact Or.inr ⟨rfl, Or.inr (by omega)⟩) (by first | exact Or.inl ⟨rfl, by omega, by omega, Or.inl (by omega)⟩ | exact Or.inl ⟨rfl, by omega, by omega, Or.inr (by omega)⟩ | exact Or.inr ⟨rfl, Or.inl (by omega)⟩ | exact Or.inr ⟨rfl, Or.inr (Or.inl (by omega))⟩ | exact Or.inr ⟨rfl, Or.inr (Or.inr ⟨by omega, by omega⟩)⟩)
                              exact ihr _ (by omega) (r + 1) 0 Q51 rfl (by omega) hstep.m01 hstep
                            · refine x_iconst d_P_prepare_366 ?_
                              refine x_goto (tgt := 371) d_P_prepare_367 rfl ?_
                              refine x_zast 40 (hM.at 7 rfl) rfl ⟨by decide, rfl, by decide⟩ rfl (by omega) (narz (by omega)) d_P_prepare_371 (fun Q52 hQ52 => ?_)
                              refine x_iinc d_P_prepare_372 rfl [some (.ref ((σ 30).1)), some (vi 0), some (vi (r + 1)), some (vi (bgs R2 0 (4 * r + R2 36 r - (4 * r + 0)).toNat (4 * r + 0))), some (vi 1), some (vi (R 35 r))] rfl rfl (lr rfl) ?_
                              refine x_goto (tgt := 223) d_P_prepare_375 rfl ?_
                              refine V.forget 3 [some (.ref ((σ 30).1)), some (vi 0), some (vi (r + 1)), none, some (vi 1), some (vi (R 35 r))] rfl ?_
                              refine V.forget 4 [some (.ref ((σ 30).1)), some (vi 0), some (vi (r + 1)), none, none, some (vi (R 35 r))] rfl ?_
                              refine V.forget 5 [some (.ref ((σ 30).1)), some (vi 0), some (vi (r + 1)), none, none, none] rfl ?_
                              have hstep := mP2.step (more' := 0) hg hpa2 ⟨by omega, by omega⟩ hset hnone hQ49 hQ52 (by first | exact Or.inl ⟨rfl, by omega, by omega⟩ | exact Or.inr ⟨rfl, Or.inl (by omega)⟩ | exact Or.inr ⟨rfl, Or.inr (by omega)⟩) (by first | exact Or.inl ⟨rfl, by omega, by omega, Or.inl (by omega)⟩ | exact Or.inl ⟨rfl, by omega, by omega, Or.inr (by omega)⟩ | exact Or.inr ⟨rfl, Or.inl (by omega)⟩ | exact Or.inr ⟨rfl, Or.inr (Or.inl (by omega))⟩ | exact Or.inr ⟨rfl, Or.inr (Or.inr ⟨by omega, by omega⟩)⟩)
                              exact ihr _ (by omega) (r + 1) 0 Q52 rfl (by omega) hstep.m01 hstep
                        · refine x_aload_n d_P_prepare_313 0 rfl rfl ?_
                          refine x_getc 30 9 40 40 fl_P_30 tk_23_9 (hM.at 0 rfl) rfl rfl d_P_prepare_314 ?_
                          refine x_iload d_P_prepare_317 rfl ?_
                          refine x_zald 40 (R2 40 (R 35 r)) (hM.at 7 rfl) rfl ⟨by decide, rfl, by decide⟩ rfl (by omega) rfl d_P_prepare_319 ?_
                          refine x_if_ne (tgt := 327) d_P_prepare_320 rfl (by omega) (fun c320 => ?_) (fun c320 => ?_)
                          · refine x_iconst d_P_prepare_327 ?_
                            refine x_istore_n d_P_prepare_328 1 rfl [some (.ref ((σ 30).1)), some (vi 0), some (vi r), some (vi (bgs R2 0 (4 * r + R2 36 r - (4 * r + 0)).toNat (4 * r + 0))), some (vi 1), some (vi (R 35 r))] rfl rfl (lr rfl) ?_
                            refine x_aload_n d_P_prepare_329 0 rfl rfl ?_
                            refine x_getc 30 10 41 41 fl_P_33 tk_23_10 (hM.at 0 rfl) rfl rfl d_P_prepare_330 ?_
                            refine x_iload d_P_prepare_333 rfl ?_
                            refine x_aload_n d_P_prepare_335 0 rfl rfl ?_
                            refine x_getc 30 10 41 41 fl_P_33 tk_23_10 (hM.at 0 rfl) rfl rfl d_P_prepare_336 ?_
                            refine x_iload d_P_prepare_339 rfl ?_
                            refine x_iald 41 (R2 41 (R 35 r)) (hM.at 8 rfl) rfl ⟨by decide, rfl, by decide⟩ rfl (by omega) rfl d_P_prepare_341 ?_
                            refine x_iload_n d_P_prepare_342 3 rfl rfl ?_
                            refine x_ior d_P_prepare_343 (ior (R2 41 (R 35 r)) (bgs R2 0 (4 * r + R2 36 r - (4 * r + 0)).toNat (4 * r + 0))) (iI_ior g41 hset0) ?_
                            refine x_iast 41 (hM.at 8 rfl) rfl ⟨by decide, rfl, by decide⟩ rfl (by omega) d_P_prepare_344 (fun Q53 hQ53 => ?_)
                            refine x_aload_n d_P_prepare_345 0 rfl rfl ?_
                            refine x_getc 30 9 40 40 fl_P_30 tk_23_9 (hM.at 0 rfl) rfl rfl d_P_prepare_346 ?_
                            refine x_iload d_P_prepare_349 rfl ?_
                            refine x_aload_n d_P_prepare_351 0 rfl rfl ?_
                            refine x_getc 30 9 40 40 fl_P_30 tk_23_9 (hM.at 0 rfl) rfl rfl d_P_prepare_352 ?_
                            refine x_iload d_P_prepare_355 rfl ?_
                            refine x_zald 40 (R2 40 (R 35 r)) (hM.at 7 rfl) rfl ⟨by decide, rfl, by decide⟩ rfl (by omega) (xr_o hQ53 (by decide)) d_P_prepare_357 ?_
                            refine x_if_ne (tgt := 366) d_P_prepare_358 rfl (by omega) (fun c358 => ?_) (fun c358 => ?_)
                            · refine x_iconst d_P_prepare_366 ?_
                              refine x_goto (tgt := 371) d_P_prepare_367 rfl ?_
                              refine x_zast 40 (hM.at 7 rfl) rfl ⟨by decide, rfl, by decide⟩ rfl (by omega) (narz (by omega)) d_P_prepare_371 (fun Q54 hQ54 => ?_)
                              refine x_iinc d_P_prepare_372 rfl [some (.ref ((σ 30).1)), some (vi 0), some (vi (r + 1)), some (vi (bgs R2 0 (4 * r + R2 36 r - (4 * r + 0)).toNat (4 * r + 0))), some (vi 1), some (vi (R 35 r))] rfl rfl (lr rfl) ?_
                              refine x_goto (tgt := 223) d_P_prepare_375 rfl ?_
                              refine V.forget 3 [some (.ref ((σ 30).1)), some (vi 0), some (vi (r + 1)), none, some (vi 1), some (vi (R 35 r))] rfl ?_
                              refine V.forget 4 [some (.ref ((σ 30).1)), some (vi 0), some (vi (r + 1)), none, none, some (vi (R 35 r))] rfl ?_
                              refine V.forget 5 [some (.ref ((σ 30).1)), some (vi 0), some (vi (r + 1)), none, none, none] rfl ?_
                              have hstep := mP2.step (more' := 0) hg hpa2 ⟨by omega, by omega⟩ hset hnone hQ53 hQ54 (by first | exact Or.inl ⟨rfl, by omega, by omega⟩ | exact Or.inr ⟨rfl, Or.inl (by omega)⟩ | exact Or.inr ⟨rfl, Or.inr (by omega)⟩) (by first | exact Or.inl ⟨rfl, by omega, by omega, Or.inl (by omega)⟩ | exact Or.inl ⟨rfl, by omega, by omega, Or.inr (by omega)⟩ | exact Or.inr ⟨rfl, Or.inl (by omega)⟩ | exact Or.inr ⟨rfl, Or.inr (Or.inl (by omega))⟩ | exact Or.inr ⟨rfl, Or.inr (Or.inr ⟨by omega, by omega⟩)⟩)
                              exact ihr _ (by omega) (r + 1) 0 Q54 rfl (by omega) hstep.m01 hstep
                            · refine x_iload d_P_prepare_361 rfl ?_
                              refine x_if_eq (tgt := 370) d_P_prepare_363 rfl (by omega) (fun c363 => ?_) (fun c363 => ?_)
                              · refine x_iconst d_P_prepare_370 ?_
                                refine x_zast 40 (hM.at 7 rfl) rfl ⟨by decide, rfl, by decide⟩ rfl (by omega) (narz (by omega)) d_P_prepare_371 (fun Q55 hQ55 => ?_)
                                refine x_iinc d_P_prepare_372 rfl [some (.ref ((σ 30).1)), some (vi 0), some (vi (r + 1)), some (vi (bgs R2 0 (4 * r + R2 36 r - (4 * r + 0)).toNat (4 * r + 0))), some (vi 1), some (vi (R 35 r))] rfl rfl (lr rfl) ?_
                                refine x_goto (tgt := 223) d_P_prepare_375 rfl ?_
                                refine V.forget 3 [some (.ref ((σ 30).1)), some (vi 0), some (vi (r + 1)), none, some (vi 1), some (vi (R 35 r))] rfl ?_
                                refine V.forget 4 [some (.ref ((σ 30).1)), some (vi 0), some (vi (r + 1)), none, none, some (vi (R 35 r))] rfl ?_
                                refine V.forget 5 [some (.ref ((σ 30).1)), some (vi 0), some (vi (r + 1)), none, none, none] rfl ?_
                                have hstep := mP2.step (more' := 0) hg hpa2 ⟨by omega, by omega⟩ hset hnone hQ53 hQ55 (by first | exact Or.inl ⟨rfl, by omega, by omega⟩ | exact Or.inr ⟨rfl, Or.inl (by omega)⟩ | exact Or.inr ⟨rfl, Or.inr (by omega)⟩) (by first | exact Or.inl ⟨rfl, by omega, by omega, Or.inl (by omega)⟩ | exact Or.inl ⟨rfl, by omega, by omega, Or.inr (by omega)⟩ | exact Or.inr ⟨rfl, Or.inl (by omega)⟩ | exact Or.inr ⟨rfl, Or.inr (Or.inl (by omega))⟩ | exact Or.inr ⟨rfl, Or.inr (Or.inr ⟨by omega, by omega⟩)⟩)
                                exact ihr _ (by omega) (r + 1) 0 Q55 rfl (by omega) hstep.m01 hstep
                              · refine x_iconst d_P_prepare_366 ?_
                                refine x_goto (tgt := 371) d_P_prepare_367 rfl ?_
                                refine x_zast 40 (hM.at 7 rfl) rfl ⟨by decide, rfl, by decide⟩ rfl (by omega) (narz (by omega)) d_P_prepare_371 (fun Q56 hQ56 => ?_)
                                refine x_iinc d_P_prepare_372 rfl [some (.ref ((σ 30).1)), some (vi 0), some (vi (r + 1)), some (vi (bgs R2 0 (4 * r + R2 36 r - (4 * r + 0)).toNat (4 * r + 0))), some (vi 1), some (vi (R 35 r))] rfl rfl (lr rfl) ?_
                                refine x_goto (tgt := 223) d_P_prepare_375 rfl ?_
                                refine V.forget 3 [some (.ref ((σ 30).1)), some (vi 0), some (vi (r + 1)), none, some (vi 1), some (vi (R 35 r))] rfl ?_
                                refine V.forget 4 [some (.ref ((σ 30).1)), some (vi 0), some (vi (r + 1)), none, none, some (vi (R 35 r))] rfl ?_
                                refine V.forget 5 [some (.ref ((σ 30).1)), some (vi 0), some (vi (r + 1)), none, none, none] rfl ?_
                                have hstep := mP2.step (more' := 0) hg hpa2 ⟨by omega, by omega⟩ hset hnone hQ53 hQ56 (by first | exact Or.inl ⟨rfl, by omega, by omega⟩ | exact Or.inr ⟨rfl, Or.inl (by omega)⟩ | exact Or.inr ⟨rfl, Or.inr (by omega)⟩) (by first | exact Or.inl ⟨rfl, by omega, by omega, Or.inl (by omega)⟩ | exact Or.inl ⟨rfl, by omega, by omega, Or.inr (by omega)⟩ | exact Or.inr ⟨rfl, Or.inl (by omega)⟩ | exact Or.inr ⟨rfl, Or.inr (Or.inl (by omega))⟩ | exact Or.inr ⟨rfl, Or.inr (Or.inr ⟨by omega, by omega⟩)⟩)
                                exact ihr _ (by omega) (r + 1) 0 Q56 rfl (by omega) hstep.m01 hstep
                          · refine x_iconst d_P_prepare_323 ?_
                            refine x_goto (tgt := 328) d_P_prepare_324 rfl ?_
                            refine x_istore_n d_P_prepare_328 1 rfl [some (.ref ((σ 30).1)), some (vi 1), some (vi r), some (vi (bgs R2 0 (4 * r + R2 36 r - (4 * r + 0)).toNat (4 * r + 0))), some (vi 1), some (vi (R 35 r))] rfl rfl (lr rfl) ?_
                            refine x_aload_n d_P_prepare_329 0 rfl rfl ?_
                            refine x_getc 30 10 41 41 fl_P_33 tk_23_10 (hM.at 0 rfl) rfl rfl d_P_prepare_330 ?_
                            refine x_iload d_P_prepare_333 rfl ?_
                            refine x_aload_n d_P_prepare_335 0 rfl rfl ?_
                            refine x_getc 30 10 41 41 fl_P_33 tk_23_10 (hM.at 0 rfl) rfl rfl d_P_prepare_336 ?_
                            refine x_iload d_P_prepare_339 rfl ?_
                            refine x_iald 41 (R2 41 (R 35 r)) (hM.at 8 rfl) rfl ⟨by decide, rfl, by decide⟩ rfl (by omega) rfl d_P_prepare_341 ?_
                            refine x_iload_n d_P_prepare_342 3 rfl rfl ?_
                            refine x_ior d_P_prepare_343 (ior (R2 41 (R 35 r)) (bgs R2 0 (4 * r + R2 36 r - (4 * r + 0)).toNat (4 * r + 0))) (iI_ior g41 hset0) ?_
                            refine x_iast 41 (hM.at 8 rfl) rfl ⟨by decide, rfl, by decide⟩ rfl (by omega) d_P_prepare_344 (fun Q57 hQ57 => ?_)
                            refine x_aload_n d_P_prepare_345 0 rfl rfl ?_
                            refine x_getc 30 9 40 40 fl_P_30 tk_23_9 (hM.at 0 rfl) rfl rfl d_P_prepare_346 ?_
                            refine x_iload d_P_prepare_349 rfl ?_
                            refine x_aload_n d_P_prepare_351 0 rfl rfl ?_
                            refine x_getc 30 9 40 40 fl_P_30 tk_23_9 (hM.at 0 rfl) rfl rfl d_P_prepare_352 ?_
                            refine x_iload d_P_prepare_355 rfl ?_
                            refine x_zald 40 (R2 40 (R 35 r)) (hM.at 7 rfl) rfl ⟨by decide, rfl, by decide⟩ rfl (by omega) (xr_o hQ57 (by decide)) d_P_prepare_357 ?_
                            refine x_if_ne (tgt := 366) d_P_prepare_358 rfl (by omega) (fun c358 => ?_) (fun c358 => ?_)
                            · refine x_iconst d_P_prepare_366 ?_
                              refine x_goto (tgt := 371) d_P_prepare_367 rfl ?_
                              refine x_zast 40 (hM.at 7 rfl) rfl ⟨by decide, rfl, by decide⟩ rfl (by omega) (narz (by omega)) d_P_prepare_371 (fun Q58 hQ58 => ?_)
                              refine x_iinc d_P_prepare_372 rfl [some (.ref ((σ 30).1)), some (vi 1), some (vi (r + 1)), some (vi (bgs R2 0 (4 * r + R2 36 r - (4 * r + 0)).toNat (4 * r + 0))), some (vi 1), some (vi (R 35 r))] rfl rfl (lr rfl) ?_
                              refine x_goto (tgt := 223) d_P_prepare_375 rfl ?_
                              refine V.forget 3 [some (.ref ((σ 30).1)), some (vi 1), some (vi (r + 1)), none, some (vi 1), some (vi (R 35 r))] rfl ?_
                              refine V.forget 4 [some (.ref ((σ 30).1)), some (vi 1), some (vi (r + 1)), none, none, some (vi (R 35 r))] rfl ?_
                              refine V.forget 5 [some (.ref ((σ 30).1)), some (vi 1), some (vi (r + 1)), none, none, none] rfl ?_
                              have hstep := mP2.step (more' := 1) hg hpa2 ⟨by omega, by omega⟩ hset hnone hQ57 hQ58 (by first | exact Or.inl ⟨rfl, by omega, by omega⟩ | exact Or.inr ⟨rfl, Or.inl (by omega)⟩ | exact Or.inr ⟨rfl, Or.inr (by omega)⟩) (by first | exact Or.inl ⟨rfl, by omega, by omega, Or.inl (by omega)⟩ | exact Or.inl ⟨rfl, by omega, by omega, Or.inr (by omega)⟩ | exact Or.inr ⟨rfl, Or.inl (by omega)⟩ | exact Or.inr ⟨rfl, Or.inr (Or.inl (by omega))⟩ | exact Or.inr ⟨rfl, Or.inr (Or.inr ⟨by omega, by omega⟩)⟩)
                              exact ihr _ (by omega) (r + 1) 1 Q58 rfl (by omega) hstep.m01 hstep
                            · refine x_iload d_P_prepare_361 rfl ?_
                              refine x_if_eq (tgt := 370) d_P_prepare_363 rfl (by omega) (fun c363 => ?_) (fun c363 => ?_)
                              · refine x_iconst d_P_prepare_370 ?_
                                refine x_zast 40 (hM.at 7 rfl) rfl ⟨by decide, rfl, by decide⟩ rfl (by omega) (narz (by omega)) d_P_prepare_371 (fun Q59 hQ59 => ?_)
                                refine x_iinc d_P_prepare_372 rfl [some (.ref ((σ 30).1)), some (vi 1), some (vi (r + 1)), some (vi (bgs R2 0 (4 * r + R2 36 r - (4 * r + 0)).toNat (4 * r + 0))), some (vi 1), some (vi (R 35 r))] rfl rfl (lr rfl) ?_
                                refine x_goto (tgt := 223) d_P_prepare_375 rfl ?_
                                refine V.forget 3 [some (.ref ((σ 30).1)), some (vi 1), some (vi (r + 1)), none, some (vi 1), some (vi (R 35 r))] rfl ?_
                                refine V.forget 4 [some (.ref ((σ 30).1)), some (vi 1), some (vi (r + 1)), none, none, some (vi (R 35 r))] rfl ?_
                                refine V.forget 5 [some (.ref ((σ 30).1)), some (vi 1), some (vi (r + 1)), none, none, none] rfl ?_
                                have hstep := mP2.step (more' := 1) hg hpa2 ⟨by omega, by omega⟩ hset hnone hQ57 hQ59 (by first | exact Or.inl ⟨rfl, by omega, by omega⟩ | exact Or.inr ⟨rfl, Or.inl (by omega)⟩ | exact Or.inr ⟨rfl, Or.inr (by omega)⟩) (by first | exact Or.inl ⟨rfl, by omega, by omega, Or.inl (by omega)⟩ | exact Or.inl ⟨rfl, by omega, by omega, Or.inr (by omega)⟩ | exact Or.inr ⟨rfl, Or.inl (by omega)⟩ | exact Or.inr ⟨rfl, Or.inr (Or.inl (by omega))⟩ | exact Or.inr ⟨rfl, Or.inr (Or.inr ⟨by omega, by omega⟩)⟩)
                                exact ihr _ (by omega) (r + 1) 1 Q59 rfl (by omega) hstep.m01 hstep
                              · refine x_iconst d_P_prepare_366 ?_
                                refine x_goto (tgt := 371) d_P_prepare_367 rfl ?_
                                refine x_zast 40 (hM.at 7 rfl) rfl ⟨by decide, rfl, by decide⟩ rfl (by omega) (narz (by omega)) d_P_prepare_371 (fun Q60 hQ60 => ?_)
                                refine x_iinc d_P_prepare_372 rfl [some (.ref ((σ 30).1)), some (vi 1), some (vi (r + 1)), some (vi (bgs R2 0 (4 * r + R2 36 r - (4 * r + 0)).toNat (4 * r + 0))), some (vi 1), some (vi (R 35 r))] rfl rfl (lr rfl) ?_
                                refine x_goto (tgt := 223) d_P_prepare_375 rfl ?_
                                refine V.forget 3 [some (.ref ((σ 30).1)), some (vi 1), some (vi (r + 1)), none, some (vi 1), some (vi (R 35 r))] rfl ?_
                                refine V.forget 4 [some (.ref ((σ 30).1)), some (vi 1), some (vi (r + 1)), none, none, some (vi (R 35 r))] rfl ?_
                                refine V.forget 5 [some (.ref ((σ 30).1)), some (vi 1), some (vi (r + 1)), none, none, none] rfl ?_
                                have hstep := mP2.step (more' := 1) hg hpa2 ⟨by omega, by omega⟩ hset hnone hQ57 hQ60 (by first | exact Or.inl ⟨rfl, by omega, by omega⟩ | exact Or.inr ⟨rfl, Or.inl (by omega)⟩ | exact Or.inr ⟨rfl, Or.inr (by omega)⟩) (by first | exact Or.inl ⟨rfl, by omega, by omega, Or.inl (by omega)⟩ | exact Or.inl ⟨rfl, by omega, by omega, Or.inr (by omega)⟩ | exact Or.inr ⟨rfl, Or.inl (by omega)⟩ | exact Or.inr ⟨rfl, Or.inr (Or.inl (by omega))⟩ | exact Or.inr ⟨rfl, Or.inr (Or.inr ⟨by omega, by omega⟩)⟩)
                                exact ihr _ (by omega) (r + 1) 1 Q60 rfl (by omega) hstep.m01 hstep
        exact hlr _ 0 0 R1 rfl (by omega) (by omega) (mP2.zero ha2)
  have hl0 : ∀ (m : Nat) (k : Int) (R0 : xR), (6 - k).toNat = m → (0 ≤ k ∧ k ≤ 6) → (mZ R R0 k) → V X m_P_prepare (2, 0, 0, Zv σ (fun R1 => mPr R1 ∧ mK R R1 ∧ ∀ x, 0 ≤ x → x ≤ 5 → R1 39 x = zc (gCm (gM R) x))) σ R0 0 0 2 [some (.ref ((σ 30).1)), some (vi k), none, none, none, none] [] := by
    intro m
    induction m using Nat.strongRecOn with
    | _ m ih =>
      intro k R0 hm hk1 hz0
      refine x_iload_n d_P_prepare_2 1 rfl rfl ?_
      refine x_bipush d_P_prepare_3 rfl ?_
      refine x_icmp_ge (tgt := 35) d_P_prepare_5 rfl (by omega) (by omega) (fun c5 => ?_) (fun c5 => ?_)
      · refine x_iconst d_P_prepare_35 ?_
        refine x_istore_n d_P_prepare_36 1 rfl [some (.ref ((σ 30).1)), some (vi 1), none, none, none, none] rfl rfl (lr rfl) ?_
        have hz : ∀ x, 0 ≤ x → x ≤ 5 → R0 40 x = 0 ∧ R0 41 x = 0 := fun x a b => (hz0.2 x a (by omega)).2
        have hlw1 : ∀ (m : Nat) (more1 : Int) (R1 : xR), 2 * mW1 R1 + more1.toNat = m → (more1 = 0 ∨ more1 = 1) → (mA1 R R1) → (more1 = 0 → (∀ x, 0 ≤ x → x ≤ 5 → R1 39 x = zc (gCm (gM R) x)) ∧ ∀ r, 0 ≤ r → r < R 30 3 → R1 38 r = zc (gUs (gM R) r)) → (∀ a b, (a = 40 ∨ a = 41) → R1 a b = R0 a b) → V X m_P_prepare (2, 0, 0, Zv σ (fun R1 => mPr R1 ∧ mK R R1 ∧ ∀ x, 0 ≤ x → x ≤ 5 → R1 39 x = zc (gCm (gM R) x))) σ R1 0 0 37 [some (.ref ((σ 30).1)), some (vi more1), none, none, none, none] [] := by
          intro m
          induction m using Nat.strongRecOn with
          | _ m ih =>
            intro more1 R1 hm hm1 ha1 hdone hk41
            refine x_iload_n d_P_prepare_37 1 rfl rfl ?_
            refine x_if_eq (tgt := 213) d_P_prepare_38 rfl (by omega) (fun c38 => ?_) (fun c38 => ?_)
            · refine x_iconst d_P_prepare_213 ?_
              refine x_istore_n d_P_prepare_214 1 rfl [some (.ref ((σ 30).1)), some (vi 1), none, none, none, none] rfl rfl (lr rfl) ?_
              have hd := hdone (by omega)
              exact hlw2 _ 1 R1 rfl (by omega) ⟨ha1.1, hd.2, hd.1, fun x a b => by rw [hk41 40 x (Or.inl rfl), hk41 41 x (Or.inr rfl), (hz x a b).1, (hz x a b).2]; exact ⟨⟨Or.inl rfl, fun q => absurd rfl q⟩, ⟨by omega, by omega⟩, fun t _ q => absurd q (hb_0 t)⟩⟩ (fun e0 => by omega)
            · refine x_iconst d_P_prepare_41 ?_
              refine x_istore_n d_P_prepare_42 1 rfl [some (.ref ((σ 30).1)), some (vi 0), none, none, none, none] rfl rfl (lr rfl) ?_
              refine x_iconst d_P_prepare_43 ?_
              refine x_istore_n d_P_prepare_44 2 rfl [some (.ref ((σ 30).1)), some (vi 0), some (vi 0), none, none, none] rfl rfl (lr rfl) ?_
              have em : more1 = 1 := by omega
              subst em
              have hn := hg.1
              have hlr : ∀ (m : Nat) (r : Int) (more2 : Int) (R2 : xR), (10 - r).toNat = m → (0 ≤ r ∧ r ≤ R 30 3) → (more2 = 0 ∨ more2 = 1) → (mP1 R R1 R2 r more2) → V X m_P_prepare (2, 0, 0, Zv σ (fun R1 => mPr R1 ∧ mK R R1 ∧ ∀ x, 0 ≤ x → x ≤ 5 → R1 39 x = zc (gCm (gM R) x))) σ R2 0 0 45 [some (.ref ((σ 30).1)), some (vi more2), some (vi r), none, none, none] [] := by
                intro m
                induction m using Nat.strongRecOn with
                | _ m ihr =>
                  intro r more2 R2 hmr hr1 hmo2 hpa
                  refine x_iload_n d_P_prepare_45 2 rfl rfl ?_
                  refine x_aload_n d_P_prepare_46 0 rfl rfl ?_
                  refine x_geti 30 3 3 (R 30 3) fl_P_90 tk_23_3 (hM.at 0 rfl) rfl rfl (hpa.1.1 30 3 (by decide)) d_P_prepare_47 ?_
                  refine x_icmp_ge (tgt := 210) d_P_prepare_50 rfl (by omega) (by omega) (fun c50 => ?_) (fun c50 => ?_)
                  · refine x_goto (tgt := 37) d_P_prepare_210 rfl ?_
                    refine V.forget 2 [some (.ref ((σ 30).1)), some (vi more2), none, none, none, none] rfl ?_
                    have er : r = R 30 3 := by omega
                    rw [er] at hpa
                    exact ih _ (by have := hpa.meas ha1; omega) more2 R2 rfl hmo2 hpa.1 (fun e0 => by rw [e0] at hpa; exact hpa.done hg) (fun a b hab => (hpa.2.2.1 a b hab).trans (hk41 a b hab))
                  · refine x_aload_n d_P_prepare_53 0 rfl rfl ?_
                    refine x_getc 30 7 38 38 fl_P_23 tk_23_7 (hM.at 0 rfl) rfl rfl d_P_prepare_54 ?_
                    refine x_iload_n d_P_prepare_57 2 rfl rfl ?_
                    refine x_iconst d_P_prepare_58 ?_
                    refine x_zast 38 (hM.at 5 rfl) rfl ⟨by decide, rfl, by decide⟩ rfl (by omega) (narz (by omega)) d_P_prepare_59 (fun Q1 hQ1 => ?_)
                    refine x_iconst d_P_prepare_60 ?_
                    refine x_iload_n d_P_prepare_61 2 rfl rfl ?_
                    refine x_imul d_P_prepare_62 ?_
                    refine x_istore_n d_P_prepare_63 3 rfl [some (.ref ((σ 30).1)), some (vi more2), some (vi r), some (vi (4 * r)), none, none] rfl rfl (lr rfl) ?_
                    have g36 := (hg.2.1 r (by omega) (by omega)).2
                    have hlk : ∀ (m : Nat) (k : Int) (R3 : xR), (4 * r + R 36 r - k).toNat = m → (4 * r ≤ k ∧ k ≤ 4 * r + R 36 r) → (mU R R2 R3 r k) → V X m_P_prepare (2, 0, 0, Zv σ (fun R1 => mPr R1 ∧ mK R R1 ∧ ∀ x, 0 ≤ x → x ≤ 5 → R1 39 x = zc (gCm (gM R) x))) σ R3 0 0 64 [some (.ref ((σ 30).1)), some (vi more2), some (vi r), some (vi k), none, none] [] := by
                      intro m
                      induction m using Nat.strongRecOn with
                      | _ m ihk =>
                        intro k R3 hmk hk1 hmu
                        have g36 := (hg.2.1 r (by omega) (by omega)).2
                        have g38 := hmu.b01
                        refine x_iload_n d_P_prepare_64 3 rfl rfl ?_
                        refine x_iconst d_P_prepare_65 ?_
                        refine x_iload_n d_P_prepare_66 2 rfl rfl ?_
                        refine x_imul d_P_prepare_67 ?_
                        refine x_aload_n d_P_prepare_68 0 rfl rfl ?_
                        refine x_getc 30 5 36 36 fl_P_17 tk_23_5 (hM.at 0 rfl) rfl rfl d_P_prepare_69 ?_
                        refine x_iload_n d_P_prepare_72 2 rfl rfl ?_
                        refine x_iald 36 (R 36 r) (hM.at 3 rfl) rfl ⟨by decide, rfl, by decide⟩ rfl (by omega) (hmu.1 36 r (by decide)) d_P_prepare_73 ?_
                        refine x_iadd d_P_prepare_74 ?_
                        refine x_icmp_ge (tgt := 132) d_P_prepare_75 rfl (by omega) (by omega) (fun c75 => ?_) (fun c75 => ?_)
                        · have ek : k = 4 * r + R 36 r := by omega
                          rw [ek] at hmu
                          have gl := (hg.2.1 r (by omega) (by omega)).1
                          have e39l := hmu.2.2.1 (R 35 r)
                          have g39l := (hpa.1.2 (R 35 r) gl.1 gl.2).1
                          refine x_iload_n d_P_prepare_132 1 rfl rfl ?_
                          refine x_if_ne (tgt := 159) d_P_prepare_133 rfl (by omega) (fun c133 => ?_) (fun c133 => ?_)
                          · refine x_iconst d_P_prepare_159 ?_
                            refine x_goto (tgt := 164) d_P_prepare_160 rfl ?_
                            refine x_istore_n d_P_prepare_164 1 rfl [some (.ref ((σ 30).1)), some (vi 1), some (vi r), some (vi k), none, none] rfl rfl (lr rfl) ?_
                            refine x_aload_n d_P_prepare_165 0 rfl rfl ?_
                            refine x_getc 30 8 39 39 fl_P_27 tk_23_8 (hM.at 0 rfl) rfl rfl d_P_prepare_166 ?_
                            refine x_aload_n d_P_prepare_169 0 rfl rfl ?_
                            refine x_getc 30 4 35 35 fl_P_13 tk_23_4 (hM.at 0 rfl) rfl rfl d_P_prepare_170 ?_
                            refine x_iload_n d_P_prepare_173 2 rfl rfl ?_
                            refine x_iald 35 (R 35 r) (hM.at 2 rfl) rfl ⟨by decide, rfl, by decide⟩ rfl (by omega) (hmu.1 35 r (by decide)) d_P_prepare_174 ?_
                            refine x_aload_n d_P_prepare_175 0 rfl rfl ?_
                            refine x_getc 30 8 39 39 fl_P_27 tk_23_8 (hM.at 0 rfl) rfl rfl d_P_prepare_176 ?_
                            refine x_aload_n d_P_prepare_179 0 rfl rfl ?_
                            refine x_getc 30 4 35 35 fl_P_13 tk_23_4 (hM.at 0 rfl) rfl rfl d_P_prepare_180 ?_
                            refine x_iload_n d_P_prepare_183 2 rfl rfl ?_
                            refine x_iald 35 (R 35 r) (hM.at 2 rfl) rfl ⟨by decide, rfl, by decide⟩ rfl (by omega) (hmu.1 35 r (by decide)) d_P_prepare_184 ?_
                            refine x_zald 39 (R3 39 (R 35 r)) (hM.at 6 rfl) rfl ⟨by decide, rfl, by decide⟩ rfl (by omega) rfl d_P_prepare_185 ?_
                            refine x_if_ne (tgt := 198) d_P_prepare_186 rfl (by omega) (fun c186 => ?_) (fun c186 => ?_)
                            · refine x_iconst d_P_prepare_198 ?_
                              refine x_goto (tgt := 203) d_P_prepare_199 rfl ?_
                              refine x_zast 39 (hM.at 6 rfl) rfl ⟨by decide, rfl, by decide⟩ rfl (by omega) (narz (by omega)) d_P_prepare_203 (fun Q1 hQ1 => ?_)
                              refine x_iinc d_P_prepare_204 rfl [some (.ref ((σ 30).1)), some (vi 1), some (vi (r + 1)), some (vi k), none, none] rfl rfl (lr rfl) ?_
                              refine x_goto (tgt := 45) d_P_prepare_207 rfl ?_
                              refine V.forget 3 [some (.ref ((σ 30).1)), some (vi 1), some (vi (r + 1)), none, none, none] rfl ?_
                              have hstep := mP1.step (more' := 1) hg hpa ⟨by omega, by omega⟩ hmu.1 hmu.2.1 hmu.2.2.1 hmu.2.2.2.1 hmu.2.2.2.2 hQ1 (by first | exact Or.inl ⟨rfl, by omega, by omega⟩ | exact Or.inr ⟨rfl, Or.inl (by omega)⟩ | exact Or.inr ⟨rfl, Or.inr (by omega)⟩) (by first | exact Or.inl ⟨rfl, by omega, Or.inl (by omega)⟩ | exact Or.inl ⟨rfl, by omega, Or.inr (by omega)⟩ | exact Or.inr ⟨rfl, Or.inl (by omega)⟩ | exact Or.inr ⟨rfl, Or.inr ⟨by omega, by omega⟩⟩)
                              exact ihr _ (by omega) (r + 1) 1 Q1 rfl (by omega) hstep.m01 hstep
                            · refine x_aload_n d_P_prepare_189 0 rfl rfl ?_
                              refine x_getc 30 7 38 38 fl_P_23 tk_23_7 (hM.at 0 rfl) rfl rfl d_P_prepare_190 ?_
                              refine x_iload_n d_P_prepare_193 2 rfl rfl ?_
                              refine x_zald 38 (R3 38 r) (hM.at 5 rfl) rfl ⟨by decide, rfl, by decide⟩ rfl (by omega) rfl d_P_prepare_194 ?_
                              refine x_if_eq (tgt := 202) d_P_prepare_195 rfl (by omega) (fun c195 => ?_) (fun c195 => ?_)
                              · refine x_iconst d_P_prepare_202 ?_
                                refine x_zast 39 (hM.at 6 rfl) rfl ⟨by decide, rfl, by decide⟩ rfl (by omega) (narz (by omega)) d_P_prepare_203 (fun Q2 hQ2 => ?_)
                                refine x_iinc d_P_prepare_204 rfl [some (.ref ((σ 30).1)), some (vi 1), some (vi (r + 1)), some (vi k), none, none] rfl rfl (lr rfl) ?_
                                refine x_goto (tgt := 45) d_P_prepare_207 rfl ?_
                                refine V.forget 3 [some (.ref ((σ 30).1)), some (vi 1), some (vi (r + 1)), none, none, none] rfl ?_
                                have hstep := mP1.step (more' := 1) hg hpa ⟨by omega, by omega⟩ hmu.1 hmu.2.1 hmu.2.2.1 hmu.2.2.2.1 hmu.2.2.2.2 hQ2 (by first | exact Or.inl ⟨rfl, by omega, by omega⟩ | exact Or.inr ⟨rfl, Or.inl (by omega)⟩ | exact Or.inr ⟨rfl, Or.inr (by omega)⟩) (by first | exact Or.inl ⟨rfl, by omega, Or.inl (by omega)⟩ | exact Or.inl ⟨rfl, by omega, Or.inr (by omega)⟩ | exact Or.inr ⟨rfl, Or.inl (by omega)⟩ | exact Or.inr ⟨rfl, Or.inr ⟨by omega, by omega⟩⟩)
                                exact ihr _ (by omega) (r + 1) 1 Q2 rfl (by omega) hstep.m01 hstep
                              · refine x_iconst d_P_prepare_198 ?_
                                refine x_goto (tgt := 203) d_P_prepare_199 rfl ?_
                                refine x_zast 39 (hM.at 6 rfl) rfl ⟨by decide, rfl, by decide⟩ rfl (by omega) (narz (by omega)) d_P_prepare_203 (fun Q3 hQ3 => ?_)
                                refine x_iinc d_P_prepare_204 rfl [some (.ref ((σ 30).1)), some (vi 1), some (vi (r + 1)), some (vi k), none, none] rfl rfl (lr rfl) ?_
                                refine x_goto (tgt := 45) d_P_prepare_207 rfl ?_
                                refine V.forget 3 [some (.ref ((σ 30).1)), some (vi 1), some (vi (r + 1)), none, none, none] rfl ?_
                                have hstep := mP1.step (more' := 1) hg hpa ⟨by omega, by omega⟩ hmu.1 hmu.2.1 hmu.2.2.1 hmu.2.2.2.1 hmu.2.2.2.2 hQ3 (by first | exact Or.inl ⟨rfl, by omega, by omega⟩ | exact Or.inr ⟨rfl, Or.inl (by omega)⟩ | exact Or.inr ⟨rfl, Or.inr (by omega)⟩) (by first | exact Or.inl ⟨rfl, by omega, Or.inl (by omega)⟩ | exact Or.inl ⟨rfl, by omega, Or.inr (by omega)⟩ | exact Or.inr ⟨rfl, Or.inl (by omega)⟩ | exact Or.inr ⟨rfl, Or.inr ⟨by omega, by omega⟩⟩)
                                exact ihr _ (by omega) (r + 1) 1 Q3 rfl (by omega) hstep.m01 hstep
                          · refine x_aload_n d_P_prepare_136 0 rfl rfl ?_
                            refine x_getc 30 7 38 38 fl_P_23 tk_23_7 (hM.at 0 rfl) rfl rfl d_P_prepare_137 ?_
                            refine x_iload_n d_P_prepare_140 2 rfl rfl ?_
                            refine x_zald 38 (R3 38 r) (hM.at 5 rfl) rfl ⟨by decide, rfl, by decide⟩ rfl (by omega) rfl d_P_prepare_141 ?_
                            refine x_if_eq (tgt := 163) d_P_prepare_142 rfl (by omega) (fun c142 => ?_) (fun c142 => ?_)
                            · refine x_iconst d_P_prepare_163 ?_
                              refine x_istore_n d_P_prepare_164 1 rfl [some (.ref ((σ 30).1)), some (vi 0), some (vi r), some (vi k), none, none] rfl rfl (lr rfl) ?_
                              refine x_aload_n d_P_prepare_165 0 rfl rfl ?_
                              refine x_getc 30 8 39 39 fl_P_27 tk_23_8 (hM.at 0 rfl) rfl rfl d_P_prepare_166 ?_
                              refine x_aload_n d_P_prepare_169 0 rfl rfl ?_
                              refine x_getc 30 4 35 35 fl_P_13 tk_23_4 (hM.at 0 rfl) rfl rfl d_P_prepare_170 ?_
                              refine x_iload_n d_P_prepare_173 2 rfl rfl ?_
                              refine x_iald 35 (R 35 r) (hM.at 2 rfl) rfl ⟨by decide, rfl, by decide⟩ rfl (by omega) (hmu.1 35 r (by decide)) d_P_prepare_174 ?_
                              refine x_aload_n d_P_prepare_175 0 rfl rfl ?_
                              refine x_getc 30 8 39 39 fl_P_27 tk_23_8 (hM.at 0 rfl) rfl rfl d_P_prepare_176 ?_
                              refine x_aload_n d_P_prepare_179 0 rfl rfl ?_
                              refine x_getc 30 4 35 35 fl_P_13 tk_23_4 (hM.at 0 rfl) rfl rfl d_P_prepare_180 ?_
                              refine x_iload_n d_P_prepare_183 2 rfl rfl ?_
                              refine x_iald 35 (R 35 r) (hM.at 2 rfl) rfl ⟨by decide, rfl, by decide⟩ rfl (by omega) (hmu.1 35 r (by decide)) d_P_prepare_184 ?_
                              refine x_zald 39 (R3 39 (R 35 r)) (hM.at 6 rfl) rfl ⟨by decide, rfl, by decide⟩ rfl (by omega) rfl d_P_prepare_185 ?_
                              refine x_if_ne (tgt := 198) d_P_prepare_186 rfl (by omega) (fun c186 => ?_) (fun c186 => ?_)
                              · refine x_iconst d_P_prepare_198 ?_
                                refine x_goto (tgt := 203) d_P_prepare_199 rfl ?_
                                refine x_zast 39 (hM.at 6 rfl) rfl ⟨by decide, rfl, by decide⟩ rfl (by omega) (narz (by omega)) d_P_prepare_203 (fun Q4 hQ4 => ?_)
                                refine x_iinc d_P_prepare_204 rfl [some (.ref ((σ 30).1)), some (vi 0), some (vi (r + 1)), some (vi k), none, none] rfl rfl (lr rfl) ?_
                                refine x_goto (tgt := 45) d_P_prepare_207 rfl ?_
                                refine V.forget 3 [some (.ref ((σ 30).1)), some (vi 0), some (vi (r + 1)), none, none, none] rfl ?_
                                have hstep := mP1.step (more' := 0) hg hpa ⟨by omega, by omega⟩ hmu.1 hmu.2.1 hmu.2.2.1 hmu.2.2.2.1 hmu.2.2.2.2 hQ4 (by first | exact Or.inl ⟨rfl, by omega, by omega⟩ | exact Or.inr ⟨rfl, Or.inl (by omega)⟩ | exact Or.inr ⟨rfl, Or.inr (by omega)⟩) (by first | exact Or.inl ⟨rfl, by omega, Or.inl (by omega)⟩ | exact Or.inl ⟨rfl, by omega, Or.inr (by omega)⟩ | exact Or.inr ⟨rfl, Or.inl (by omega)⟩ | exact Or.inr ⟨rfl, Or.inr ⟨by omega, by omega⟩⟩)
                                exact ihr _ (by omega) (r + 1) 0 Q4 rfl (by omega) hstep.m01 hstep
                              · refine x_aload_n d_P_prepare_189 0 rfl rfl ?_
                                refine x_getc 30 7 38 38 fl_P_23 tk_23_7 (hM.at 0 rfl) rfl rfl d_P_prepare_190 ?_
                                refine x_iload_n d_P_prepare_193 2 rfl rfl ?_
                                refine x_zald 38 (R3 38 r) (hM.at 5 rfl) rfl ⟨by decide, rfl, by decide⟩ rfl (by omega) rfl d_P_prepare_194 ?_
                                refine x_if_eq (tgt := 202) d_P_prepare_195 rfl (by omega) (fun c195 => ?_) (fun c195 => ?_)
                                · refine x_iconst d_P_prepare_202 ?_
                                  refine x_zast 39 (hM.at 6 rfl) rfl ⟨by decide, rfl, by decide⟩ rfl (by omega) (narz (by omega)) d_P_prepare_203 (fun Q5 hQ5 => ?_)
                                  refine x_iinc d_P_prepare_204 rfl [some (.ref ((σ 30).1)), some (vi 0), some (vi (r + 1)), some (vi k), none, none] rfl rfl (lr rfl) ?_
                                  refine x_goto (tgt := 45) d_P_prepare_207 rfl ?_
                                  refine V.forget 3 [some (.ref ((σ 30).1)), some (vi 0), some (vi (r + 1)), none, none, none] rfl ?_
                                  have hstep := mP1.step (more' := 0) hg hpa ⟨by omega, by omega⟩ hmu.1 hmu.2.1 hmu.2.2.1 hmu.2.2.2.1 hmu.2.2.2.2 hQ5 (by first | exact Or.inl ⟨rfl, by omega, by omega⟩ | exact Or.inr ⟨rfl, Or.inl (by omega)⟩ | exact Or.inr ⟨rfl, Or.inr (by omega)⟩) (by first | exact Or.inl ⟨rfl, by omega, Or.inl (by omega)⟩ | exact Or.inl ⟨rfl, by omega, Or.inr (by omega)⟩ | exact Or.inr ⟨rfl, Or.inl (by omega)⟩ | exact Or.inr ⟨rfl, Or.inr ⟨by omega, by omega⟩⟩)
                                  exact ihr _ (by omega) (r + 1) 0 Q5 rfl (by omega) hstep.m01 hstep
                                · refine x_iconst d_P_prepare_198 ?_
                                  refine x_goto (tgt := 203) d_P_prepare_199 rfl ?_
                                  refine x_zast 39 (hM.at 6 rfl) rfl ⟨by decide, rfl, by decide⟩ rfl (by omega) (narz (by omega)) d_P_prepare_203 (fun Q6 hQ6 => ?_)
                                  refine x_iinc d_P_prepare_204 rfl [some (.ref ((σ 30).1)), some (vi 0), some (vi (r + 1)), some (vi k), none, none] rfl rfl (lr rfl) ?_
                                  refine x_goto (tgt := 45) d_P_prepare_207 rfl ?_
                                  refine V.forget 3 [some (.ref ((σ 30).1)), some (vi 0), some (vi (r + 1)), none, none, none] rfl ?_
                                  have hstep := mP1.step (more' := 0) hg hpa ⟨by omega, by omega⟩ hmu.1 hmu.2.1 hmu.2.2.1 hmu.2.2.2.1 hmu.2.2.2.2 hQ6 (by first | exact Or.inl ⟨rfl, by omega, by omega⟩ | exact Or.inr ⟨rfl, Or.inl (by omega)⟩ | exact Or.inr ⟨rfl, Or.inr (by omega)⟩) (by first | exact Or.inl ⟨rfl, by omega, Or.inl (by omega)⟩ | exact Or.inl ⟨rfl, by omega, Or.inr (by omega)⟩ | exact Or.inr ⟨rfl, Or.inl (by omega)⟩ | exact Or.inr ⟨rfl, Or.inr ⟨by omega, by omega⟩⟩)
                                  exact ihr _ (by omega) (r + 1) 0 Q6 rfl (by omega) hstep.m01 hstep
                            · refine x_aload_n d_P_prepare_145 0 rfl rfl ?_
                              refine x_getc 30 8 39 39 fl_P_27 tk_23_8 (hM.at 0 rfl) rfl rfl d_P_prepare_146 ?_
                              refine x_aload_n d_P_prepare_149 0 rfl rfl ?_
                              refine x_getc 30 4 35 35 fl_P_13 tk_23_4 (hM.at 0 rfl) rfl rfl d_P_prepare_150 ?_
                              refine x_iload_n d_P_prepare_153 2 rfl rfl ?_
                              refine x_iald 35 (R 35 r) (hM.at 2 rfl) rfl ⟨by decide, rfl, by decide⟩ rfl (by omega) (hmu.1 35 r (by decide)) d_P_prepare_154 ?_
                              refine x_zald 39 (R3 39 (R 35 r)) (hM.at 6 rfl) rfl ⟨by decide, rfl, by decide⟩ rfl (by omega) rfl d_P_prepare_155 ?_
                              refine x_if_ne (tgt := 163) d_P_prepare_156 rfl (by omega) (fun c156 => ?_) (fun c156 => ?_)
                              · refine x_iconst d_P_prepare_163 ?_
                                refine x_istore_n d_P_prepare_164 1 rfl [some (.ref ((σ 30).1)), some (vi 0), some (vi r), some (vi k), none, none] rfl rfl (lr rfl) ?_
                                refine x_aload_n d_P_prepare_165 0 rfl rfl ?_
                                refine x_getc 30 8 39 39 fl_P_27 tk_23_8 (hM.at 0 rfl) rfl rfl d_P_prepare_166 ?_
                                refine x_aload_n d_P_prepare_169 0 rfl rfl ?_
                                refine x_getc 30 4 35 35 fl_P_13 tk_23_4 (hM.at 0 rfl) rfl rfl d_P_prepare_170 ?_
                                refine x_iload_n d_P_prepare_173 2 rfl rfl ?_
                                refine x_iald 35 (R 35 r) (hM.at 2 rfl) rfl ⟨by decide, rfl, by decide⟩ rfl (by omega) (hmu.1 35 r (by decide)) d_P_prepare_174 ?_
                                refine x_aload_n d_P_prepare_175 0 rfl rfl ?_
                                refine x_getc 30 8 39 39 fl_P_27 tk_23_8 (hM.at 0 rfl) rfl rfl d_P_prepare_176 ?_
                                refine x_aload_n d_P_prepare_179 0 rfl rfl ?_
                                refine x_getc 30 4 35 35 fl_P_13 tk_23_4 (hM.at 0 rfl) rfl rfl d_P_prepare_180 ?_
                                refine x_iload_n d_P_prepare_183 2 rfl rfl ?_
                                refine x_iald 35 (R 35 r) (hM.at 2 rfl) rfl ⟨by decide, rfl, by decide⟩ rfl (by omega) (hmu.1 35 r (by decide)) d_P_prepare_184 ?_
                                refine x_zald 39 (R3 39 (R 35 r)) (hM.at 6 rfl) rfl ⟨by decide, rfl, by decide⟩ rfl (by omega) rfl d_P_prepare_185 ?_
                                refine x_if_ne (tgt := 198) d_P_prepare_186 rfl (by omega) (fun c186 => ?_) (fun c186 => ?_)
                                · refine x_iconst d_P_prepare_198 ?_
                                  refine x_goto (tgt := 203) d_P_prepare_199 rfl ?_
                                  refine x_zast 39 (hM.at 6 rfl) rfl ⟨by decide, rfl, by decide⟩ rfl (by omega) (narz (by omega)) d_P_prepare_203 (fun Q7 hQ7 => ?_)
                                  refine x_iinc d_P_prepare_204 rfl [some (.ref ((σ 30).1)), some (vi 0), some (vi (r + 1)), some (vi k), none, none] rfl rfl (lr rfl) ?_
                                  refine x_goto (tgt := 45) d_P_prepare_207 rfl ?_
                                  refine V.forget 3 [some (.ref ((σ 30).1)), some (vi 0), some (vi (r + 1)), none, none, none] rfl ?_
                                  have hstep := mP1.step (more' := 0) hg hpa ⟨by omega, by omega⟩ hmu.1 hmu.2.1 hmu.2.2.1 hmu.2.2.2.1 hmu.2.2.2.2 hQ7 (by first | exact Or.inl ⟨rfl, by omega, by omega⟩ | exact Or.inr ⟨rfl, Or.inl (by omega)⟩ | exact Or.inr ⟨rfl, Or.inr (by omega)⟩) (by first | exact Or.inl ⟨rfl, by omega, Or.inl (by omega)⟩ | exact Or.inl ⟨rfl, by omega, Or.inr (by omega)⟩ | exact Or.inr ⟨rfl, Or.inl (by omega)⟩ | exact Or.inr ⟨rfl, Or.inr ⟨by omega, by omega⟩⟩)
                                  exact ihr _ (by omega) (r + 1) 0 Q7 rfl (by omega) hstep.m01 hstep
                                · refine x_aload_n d_P_prepare_189 0 rfl rfl ?_
                                  refine x_getc 30 7 38 38 fl_P_23 tk_23_7 (hM.at 0 rfl) rfl rfl d_P_prepare_190 ?_
                                  refine x_iload_n d_P_prepare_193 2 rfl rfl ?_
                                  refine x_zald 38 (R3 38 r) (hM.at 5 rfl) rfl ⟨by decide, rfl, by decide⟩ rfl (by omega) rfl d_P_prepare_194 ?_
                                  refine x_if_eq (tgt := 202) d_P_prepare_195 rfl (by omega) (fun c195 => ?_) (fun c195 => ?_)
                                  · refine x_iconst d_P_prepare_202 ?_
                                    refine x_zast 39 (hM.at 6 rfl) rfl ⟨by decide, rfl, by decide⟩ rfl (by omega) (narz (by omega)) d_P_prepare_203 (fun Q8 hQ8 => ?_)
                                    refine x_iinc d_P_prepare_204 rfl [some (.ref ((σ 30).1)), some (vi 0), some (vi (r + 1)), some (vi k), none, none] rfl rfl (lr rfl) ?_
                                    refine x_goto (tgt := 45) d_P_prepare_207 rfl ?_
                                    refine V.forget 3 [some (.ref ((σ 30).1)), some (vi 0), some (vi (r + 1)), none, none, none] rfl ?_
                                    have hstep := mP1.step (more' := 0) hg hpa ⟨by omega, by omega⟩ hmu.1 hmu.2.1 hmu.2.2.1 hmu.2.2.2.1 hmu.2.2.2.2 hQ8 (by first | exact Or.inl ⟨rfl, by omega, by omega⟩ | exact Or.inr ⟨rfl, Or.inl (by omega)⟩ | exact Or.inr ⟨rfl, Or.inr (by omega)⟩) (by first | exact Or.inl ⟨rfl, by omega, Or.inl (by omega)⟩ | exact Or.inl ⟨rfl, by omega, Or.inr (by omega)⟩ | exact Or.inr ⟨rfl, Or.inl (by omega)⟩ | exact Or.inr ⟨rfl, Or.inr ⟨by omega, by omega⟩⟩)
                                    exact ihr _ (by omega) (r + 1) 0 Q8 rfl (by omega) hstep.m01 hstep
                                  · refine x_iconst d_P_prepare_198 ?_
                                    refine x_goto (tgt := 203) d_P_prepare_199 rfl ?_
                                    refine x_zast 39 (hM.at 6 rfl) rfl ⟨by decide, rfl, by decide⟩ rfl (by omega) (narz (by omega)) d_P_prepare_203 (fun Q9 hQ9 => ?_)
                                    refine x_iinc d_P_prepare_204 rfl [some (.ref ((σ 30).1)), some (vi 0), some (vi (r + 1)), some (vi k), none, none] rfl rfl (lr rfl) ?_
                                    refine x_goto (tgt := 45) d_P_prepare_207 rfl ?_
                                    refine V.forget 3 [some (.ref ((σ 30).1)), some (vi 0), some (vi (r + 1)), none, none, none] rfl ?_
                                    have hstep := mP1.step (more' := 0) hg hpa ⟨by omega, by omega⟩ hmu.1 hmu.2.1 hmu.2.2.1 hmu.2.2.2.1 hmu.2.2.2.2 hQ9 (by first | exact Or.inl ⟨rfl, by omega, by omega⟩ | exact Or.inr ⟨rfl, Or.inl (by omega)⟩ | exact Or.inr ⟨rfl, Or.inr (by omega)⟩) (by first | exact Or.inl ⟨rfl, by omega, Or.inl (by omega)⟩ | exact Or.inl ⟨rfl, by omega, Or.inr (by omega)⟩ | exact Or.inr ⟨rfl, Or.inl (by omega)⟩ | exact Or.inr ⟨rfl, Or.inr ⟨by omega, by omega⟩⟩)
                                    exact ihr _ (by omega) (r + 1) 0 Q9 rfl (by omega) hstep.m01 hstep
                              · refine x_iconst d_P_prepare_159 ?_
                                refine x_goto (tgt := 164) d_P_prepare_160 rfl ?_
                                refine x_istore_n d_P_prepare_164 1 rfl [some (.ref ((σ 30).1)), some (vi 1), some (vi r), some (vi k), none, none] rfl rfl (lr rfl) ?_
                                refine x_aload_n d_P_prepare_165 0 rfl rfl ?_
                                refine x_getc 30 8 39 39 fl_P_27 tk_23_8 (hM.at 0 rfl) rfl rfl d_P_prepare_166 ?_
                                refine x_aload_n d_P_prepare_169 0 rfl rfl ?_
                                refine x_getc 30 4 35 35 fl_P_13 tk_23_4 (hM.at 0 rfl) rfl rfl d_P_prepare_170 ?_
                                refine x_iload_n d_P_prepare_173 2 rfl rfl ?_
                                refine x_iald 35 (R 35 r) (hM.at 2 rfl) rfl ⟨by decide, rfl, by decide⟩ rfl (by omega) (hmu.1 35 r (by decide)) d_P_prepare_174 ?_
                                refine x_aload_n d_P_prepare_175 0 rfl rfl ?_
                                refine x_getc 30 8 39 39 fl_P_27 tk_23_8 (hM.at 0 rfl) rfl rfl d_P_prepare_176 ?_
                                refine x_aload_n d_P_prepare_179 0 rfl rfl ?_
                                refine x_getc 30 4 35 35 fl_P_13 tk_23_4 (hM.at 0 rfl) rfl rfl d_P_prepare_180 ?_
                                refine x_iload_n d_P_prepare_183 2 rfl rfl ?_
                                refine x_iald 35 (R 35 r) (hM.at 2 rfl) rfl ⟨by decide, rfl, by decide⟩ rfl (by omega) (hmu.1 35 r (by decide)) d_P_prepare_184 ?_
                                refine x_zald 39 (R3 39 (R 35 r)) (hM.at 6 rfl) rfl ⟨by decide, rfl, by decide⟩ rfl (by omega) rfl d_P_prepare_185 ?_
                                refine x_if_ne (tgt := 198) d_P_prepare_186 rfl (by omega) (fun c186 => ?_) (fun c186 => ?_)
                                · refine x_iconst d_P_prepare_198 ?_
                                  refine x_goto (tgt := 203) d_P_prepare_199 rfl ?_
                                  refine x_zast 39 (hM.at 6 rfl) rfl ⟨by decide, rfl, by decide⟩ rfl (by omega) (narz (by omega)) d_P_prepare_203 (fun Q10 hQ10 => ?_)
                                  refine x_iinc d_P_prepare_204 rfl [some (.ref ((σ 30).1)), some (vi 1), some (vi (r + 1)), some (vi k), none, none] rfl rfl (lr rfl) ?_
                                  refine x_goto (tgt := 45) d_P_prepare_207 rfl ?_
                                  refine V.forget 3 [some (.ref ((σ 30).1)), some (vi 1), some (vi (r + 1)), none, none, none] rfl ?_
                                  have hstep := mP1.step (more' := 1) hg hpa ⟨by omega, by omega⟩ hmu.1 hmu.2.1 hmu.2.2.1 hmu.2.2.2.1 hmu.2.2.2.2 hQ10 (by first | exact Or.inl ⟨rfl, by omega, by omega⟩ | exact Or.inr ⟨rfl, Or.inl (by omega)⟩ | exact Or.inr ⟨rfl, Or.inr (by omega)⟩) (by first | exact Or.inl ⟨rfl, by omega, Or.inl (by omega)⟩ | exact Or.inl ⟨rfl, by omega, Or.inr (by omega)⟩ | exact Or.inr ⟨rfl, Or.inl (by omega)⟩ | exact Or.inr ⟨rfl, Or.inr ⟨by omega, by omega⟩⟩)
                                  exact ihr _ (by omega) (r + 1) 1 Q10 rfl (by omega) hstep.m01 hstep
                                · refine x_aload_n d_P_prepare_189 0 rfl rfl ?_
                                  refine x_getc 30 7 38 38 fl_P_23 tk_23_7 (hM.at 0 rfl) rfl rfl d_P_prepare_190 ?_
                                  refine x_iload_n d_P_prepare_193 2 rfl rfl ?_
                                  refine x_zald 38 (R3 38 r) (hM.at 5 rfl) rfl ⟨by decide, rfl, by decide⟩ rfl (by omega) rfl d_P_prepare_194 ?_
                                  refine x_if_eq (tgt := 202) d_P_prepare_195 rfl (by omega) (fun c195 => ?_) (fun c195 => ?_)
                                  · refine x_iconst d_P_prepare_202 ?_
                                    refine x_zast 39 (hM.at 6 rfl) rfl ⟨by decide, rfl, by decide⟩ rfl (by omega) (narz (by omega)) d_P_prepare_203 (fun Q11 hQ11 => ?_)
                                    refine x_iinc d_P_prepare_204 rfl [some (.ref ((σ 30).1)), some (vi 1), some (vi (r + 1)), some (vi k), none, none] rfl rfl (lr rfl) ?_
                                    refine x_goto (tgt := 45) d_P_prepare_207 rfl ?_
                                    refine V.forget 3 [some (.ref ((σ 30).1)), some (vi 1), some (vi (r + 1)), none, none, none] rfl ?_
                                    have hstep := mP1.step (more' := 1) hg hpa ⟨by omega, by omega⟩ hmu.1 hmu.2.1 hmu.2.2.1 hmu.2.2.2.1 hmu.2.2.2.2 hQ11 (by first | exact Or.inl ⟨rfl, by omega, by omega⟩ | exact Or.inr ⟨rfl, Or.inl (by omega)⟩ | exact Or.inr ⟨rfl, Or.inr (by omega)⟩) (by first | exact Or.inl ⟨rfl, by omega, Or.inl (by omega)⟩ | exact Or.inl ⟨rfl, by omega, Or.inr (by omega)⟩ | exact Or.inr ⟨rfl, Or.inl (by omega)⟩ | exact Or.inr ⟨rfl, Or.inr ⟨by omega, by omega⟩⟩)
                                    exact ihr _ (by omega) (r + 1) 1 Q11 rfl (by omega) hstep.m01 hstep
                                  · refine x_iconst d_P_prepare_198 ?_
                                    refine x_goto (tgt := 203) d_P_prepare_199 rfl ?_
                                    refine x_zast 39 (hM.at 6 rfl) rfl ⟨by decide, rfl, by decide⟩ rfl (by omega) (narz (by omega)) d_P_prepare_203 (fun Q12 hQ12 => ?_)
                                    refine x_iinc d_P_prepare_204 rfl [some (.ref ((σ 30).1)), some (vi 1), some (vi (r + 1)), some (vi k), none, none] rfl rfl (lr rfl) ?_
                                    refine x_goto (tgt := 45) d_P_prepare_207 rfl ?_
                                    refine V.forget 3 [some (.ref ((σ 30).1)), some (vi 1), some (vi (r + 1)), none, none, none] rfl ?_
                                    have hstep := mP1.step (more' := 1) hg hpa ⟨by omega, by omega⟩ hmu.1 hmu.2.1 hmu.2.2.1 hmu.2.2.2.1 hmu.2.2.2.2 hQ12 (by first | exact Or.inl ⟨rfl, by omega, by omega⟩ | exact Or.inr ⟨rfl, Or.inl (by omega)⟩ | exact Or.inr ⟨rfl, Or.inr (by omega)⟩) (by first | exact Or.inl ⟨rfl, by omega, Or.inl (by omega)⟩ | exact Or.inl ⟨rfl, by omega, Or.inr (by omega)⟩ | exact Or.inr ⟨rfl, Or.inl (by omega)⟩ | exact Or.inr ⟨rfl, Or.inr ⟨by omega, by omega⟩⟩)
                                    exact ihr _ (by omega) (r + 1) 1 Q12 rfl (by omega) hstep.m01 hstep
                        · have hsy := hg.2.2 r (k - 4 * r) (by omega) (by omega) (by omega) (by omega)
                          rw [show 4 * r + (k - 4 * r) = k by omega] at hsy
                          refine x_aload_n d_P_prepare_78 0 rfl rfl ?_
                          refine x_getc 30 7 38 38 fl_P_23 tk_23_7 (hM.at 0 rfl) rfl rfl d_P_prepare_79 ?_
                          refine x_iload_n d_P_prepare_82 2 rfl rfl ?_
                          refine x_aload_n d_P_prepare_83 0 rfl rfl ?_
                          refine x_getc 30 7 38 38 fl_P_23 tk_23_7 (hM.at 0 rfl) rfl rfl d_P_prepare_84 ?_
                          refine x_iload_n d_P_prepare_87 2 rfl rfl ?_
                          refine x_zald 38 (R3 38 r) (hM.at 5 rfl) rfl ⟨by decide, rfl, by decide⟩ rfl (by omega) rfl d_P_prepare_88 ?_
                          refine x_if_eq (tgt := 124) d_P_prepare_89 rfl (by omega) (fun c89 => ?_) (fun c89 => ?_)
                          · refine x_iconst d_P_prepare_124 ?_
                            refine x_zast 38 (hM.at 5 rfl) rfl ⟨by decide, rfl, by decide⟩ rfl (by omega) (narz (by omega)) d_P_prepare_125 (fun Q13 hQ13 => ?_)
                            refine x_iinc d_P_prepare_126 rfl [some (.ref ((σ 30).1)), some (vi more2), some (vi r), some (vi (k + 1)), none, none] rfl rfl (lr rfl) ?_
                            refine x_goto (tgt := 64) d_P_prepare_129 rfl ?_
                            exact ihk _ (by omega) (k + 1) Q13 rfl (by omega) (hmu.step (by omega) hQ13 (by first | exact Or.inl ⟨rfl, by omega, Or.inl (by omega)⟩ | exact Or.inl ⟨rfl, by omega, Or.inr (by rw [← e39]; omega)⟩ | exact Or.inr ⟨rfl, Or.inl (by omega)⟩ | exact Or.inr ⟨rfl, Or.inr (fun q => q.elim (fun q1 => by omega) (fun q1 => by rw [← e39] at q1; omega))⟩))
                          · refine x_aload_n d_P_prepare_92 0 rfl rfl ?_
                            refine x_getc 30 6 37 37 fl_P_20 tk_23_6 (hM.at 0 rfl) rfl rfl d_P_prepare_93 ?_
                            refine x_iload_n d_P_prepare_96 3 rfl rfl ?_
                            refine x_iald 37 (R 37 k) (hM.at 4 rfl) rfl ⟨by decide, rfl, by decide⟩ rfl (by omega) (hmu.1 37 k (by decide)) d_P_prepare_97 ?_
                            refine x_bipush d_P_prepare_98 rfl ?_
                            refine x_icmp_lt (tgt := 120) d_P_prepare_100 rfl (by omega) (by omega) (fun c100 => ?_) (fun c100 => ?_)
                            · refine x_iconst d_P_prepare_120 ?_
                              refine x_goto (tgt := 125) d_P_prepare_121 rfl ?_
                              refine x_zast 38 (hM.at 5 rfl) rfl ⟨by decide, rfl, by decide⟩ rfl (by omega) (narz (by omega)) d_P_prepare_125 (fun Q14 hQ14 => ?_)
                              refine x_iinc d_P_prepare_126 rfl [some (.ref ((σ 30).1)), some (vi more2), some (vi r), some (vi (k + 1)), none, none] rfl rfl (lr rfl) ?_
                              refine x_goto (tgt := 64) d_P_prepare_129 rfl ?_
                              exact ihk _ (by omega) (k + 1) Q14 rfl (by omega) (hmu.step (by omega) hQ14 (by first | exact Or.inl ⟨rfl, by omega, Or.inl (by omega)⟩ | exact Or.inl ⟨rfl, by omega, Or.inr (by rw [← e39]; omega)⟩ | exact Or.inr ⟨rfl, Or.inl (by omega)⟩ | exact Or.inr ⟨rfl, Or.inr (fun q => q.elim (fun q1 => by omega) (fun q1 => by rw [← e39] at q1; omega))⟩))
                            · have e39 := hmu.2.2.1 (R 37 k - 6)
                              have g39 := (hpa.1.2 (R 37 k - 6) (by omega) (by omega)).1
                              refine x_aload_n d_P_prepare_103 0 rfl rfl ?_
                              refine x_getc 30 8 39 39 fl_P_27 tk_23_8 (hM.at 0 rfl) rfl rfl d_P_prepare_104 ?_
                              refine x_aload_n d_P_prepare_107 0 rfl rfl ?_
                              refine x_getc 30 6 37 37 fl_P_20 tk_23_6 (hM.at 0 rfl) rfl rfl d_P_prepare_108 ?_
                              refine x_iload_n d_P_prepare_111 3 rfl rfl ?_
                              refine x_iald 37 (R 37 k) (hM.at 4 rfl) rfl ⟨by decide, rfl, by decide⟩ rfl (by omega) (hmu.1 37 k (by decide)) d_P_prepare_112 ?_
                              refine x_bipush d_P_prepare_113 rfl ?_
                              refine x_isub d_P_prepare_115 ?_
                              refine x_zald 39 (R3 39 ((R 37 k) - 6)) (hM.at 6 rfl) rfl ⟨by decide, rfl, by decide⟩ rfl (by omega) rfl d_P_prepare_116 ?_
                              refine x_if_eq (tgt := 124) d_P_prepare_117 rfl (by omega) (fun c117 => ?_) (fun c117 => ?_)
                              · refine x_iconst d_P_prepare_124 ?_
                                refine x_zast 38 (hM.at 5 rfl) rfl ⟨by decide, rfl, by decide⟩ rfl (by omega) (narz (by omega)) d_P_prepare_125 (fun Q15 hQ15 => ?_)
                                refine x_iinc d_P_prepare_126 rfl [some (.ref ((σ 30).1)), some (vi more2), some (vi r), some (vi (k + 1)), none, none] rfl rfl (lr rfl) ?_
                                refine x_goto (tgt := 64) d_P_prepare_129 rfl ?_
                                exact ihk _ (by omega) (k + 1) Q15 rfl (by omega) (hmu.step (by omega) hQ15 (by first | exact Or.inl ⟨rfl, by omega, Or.inl (by omega)⟩ | exact Or.inl ⟨rfl, by omega, Or.inr (by rw [← e39]; omega)⟩ | exact Or.inr ⟨rfl, Or.inl (by omega)⟩ | exact Or.inr ⟨rfl, Or.inr (fun q => q.elim (fun q1 => by omega) (fun q1 => by rw [← e39] at q1; omega))⟩))
                              · refine x_iconst d_P_prepare_120 ?_
                                refine x_goto (tgt := 125) d_P_prepare_121 rfl ?_
                                refine x_zast 38 (hM.at 5 rfl) rfl ⟨by decide, rfl, by decide⟩ rfl (by omega) (narz (by omega)) d_P_prepare_125 (fun Q16 hQ16 => ?_)
                                refine x_iinc d_P_prepare_126 rfl [some (.ref ((σ 30).1)), some (vi more2), some (vi r), some (vi (k + 1)), none, none] rfl rfl (lr rfl) ?_
                                refine x_goto (tgt := 64) d_P_prepare_129 rfl ?_
                                exact ihk _ (by omega) (k + 1) Q16 rfl (by omega) (hmu.step (by omega) hQ16 (by first | exact Or.inl ⟨rfl, by omega, Or.inl (by omega)⟩ | exact Or.inl ⟨rfl, by omega, Or.inr (by rw [← e39]; omega)⟩ | exact Or.inr ⟨rfl, Or.inl (by omega)⟩ | exact Or.inr ⟨rfl, Or.inr (fun q => q.elim (fun q1 => by omega) (fun q1 => by rw [← e39] at q1; omega))⟩))
                    exact hlk _ (4 * r) Q1 rfl (by omega) (mU.zero hpa.1.1 hQ1)
              exact hlr _ 0 0 R1 rfl (by omega) (by omega) (mP1.zero ha1)
        exact hlw1 _ 1 R0 rfl (by omega) ⟨hz0.1, fun x a b => by rw [(hz0.2 x a (by omega)).1]; exact ⟨Or.inl rfl, fun q => absurd rfl q⟩⟩ (fun e0 => by omega) (fun _ _ _ => rfl)
      · refine x_aload_n d_P_prepare_8 0 rfl rfl ?_
        refine x_getc 30 8 39 39 fl_P_27 tk_23_8 (hM.at 0 rfl) rfl rfl d_P_prepare_9 ?_
        refine x_iload_n d_P_prepare_12 1 rfl rfl ?_
        refine x_iconst d_P_prepare_13 ?_
        refine x_zast 39 (hM.at 6 rfl) rfl ⟨by decide, rfl, by decide⟩ rfl (by omega) (narz (by omega)) d_P_prepare_14 (fun Q1 hQ1 => ?_)
        refine x_aload_n d_P_prepare_15 0 rfl rfl ?_
        refine x_getc 30 9 40 40 fl_P_30 tk_23_9 (hM.at 0 rfl) rfl rfl d_P_prepare_16 ?_
        refine x_iload_n d_P_prepare_19 1 rfl rfl ?_
        refine x_iconst d_P_prepare_20 ?_
        refine x_zast 40 (hM.at 7 rfl) rfl ⟨by decide, rfl, by decide⟩ rfl (by omega) (narz (by omega)) d_P_prepare_21 (fun Q2 hQ2 => ?_)
        refine x_aload_n d_P_prepare_22 0 rfl rfl ?_
        refine x_getc 30 10 41 41 fl_P_33 tk_23_10 (hM.at 0 rfl) rfl rfl d_P_prepare_23 ?_
        refine x_iload_n d_P_prepare_26 1 rfl rfl ?_
        refine x_iconst d_P_prepare_27 ?_
        refine x_iast 41 (hM.at 8 rfl) rfl ⟨by decide, rfl, by decide⟩ rfl (by omega) d_P_prepare_28 (fun Q3 hQ3 => ?_)
        refine x_iinc d_P_prepare_29 rfl [some (.ref ((σ 30).1)), some (vi (k + 1)), none, none, none, none] rfl rfl (lr rfl) ?_
        refine x_goto (tgt := 2) d_P_prepare_32 rfl ?_
        exact ih _ (by omega) (k + 1) Q3 rfl (by omega) (hz0.step hQ1 hQ2 hQ3)
  refine x_iconst d_P_prepare_0 ?_
  refine x_istore_n d_P_prepare_1 1 rfl [some (.ref ((σ 30).1)), some (vi 0), none, none, none, none] rfl rfl (lr rfl) ?_
  exact hl0 _ 0 R rfl (by omega) ⟨fun _ _ _ => rfl, fun x a b => by omega⟩
