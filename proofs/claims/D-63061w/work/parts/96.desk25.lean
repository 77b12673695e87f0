/-! the desk: look -/
theorem nd_put {e : xEn} {st : List Int} {c : Int} (h : c < 6) : ndP e (c :: st) = ((ndP e st).1 + 1, (ndP e st).2.1, (ndP e st).2.2.1 + e.2.2.1 c, (ndP e st).2.2.2.1, up1 (ndP e st).2.2.2.2 (ndP e st).1 c) := if_pos h
theorem nd_take {e : xEn} {st : List Int} : ndP e (6 :: st) = ((ndP e st).1, (ndP e st).2.1 + 1, (ndP e st).2.2.1 + e.2.2.2.1 (e.2.1 (ndP e st).2.1), (ndP e st).2.2.2.1, (ndP e st).2.2.2.2) := by
  show ndS e (ndP e st) 6 = _
  unfold ndS
  rw [if_neg (by decide), if_pos rfl]
theorem nd_pass {e : xEn} {st : List Int} : ndP e (7 :: st) = ((ndP e st).1 + 1, (ndP e st).2.1 + 1, (ndP e st).2.2.1, (ndP e st).2.2.2.1 + 1, up1 (ndP e st).2.2.2.2 (ndP e st).1 (e.2.1 (ndP e st).2.1)) := by
  show ndS e (ndP e st) 7 = _
  unfold ndS
  rw [if_neg (by decide), if_neg (by decide)]
theorem srF_em {g : xGr} {a : auT} {e : xEn} {cost guard : Int} {f : Nat} {st : List Int} : ∀ (m : Nat) (c : Int), (∀ x, c ≤ x → x < c + m → sr g a e cost guard f st x = []) → srF g a e cost guard f st m c = [] := by
  intro m
  induction m with
  | zero => intro c _; rfl
  | succ m ih =>
    intro c h
    show sr g a e cost guard f st c ++ srF g a e cost guard f st m (c + 1) = []
    rw [h c (Int.le_refl _) (by omega), ih (c + 1) (fun x x0 x1 => h x (by omega) (by omega))]
    rfl
/-- other places move, the search's result stays -/
theorem lkP.st {e : xEn} {R R1 R3 : xR} {n l : Int} {D F : List (List Int × Int)} (h : lkP e R n l D F R1) (hz : dFz R1 R3) (h17 : ∀ k, 0 ≤ k → k < n → R3 17 k = R1 17 k) (h18 : R3 18 = R1 18) (hf : dFd R3 (tk (D ++ F))) : lkP e R n l D F R3 := ⟨h.1.trans hz, hf, fun k k0 k1 => by rw [h17 k k0 k1]; exact h.2.2.1 k k0 k1, fun i i0 i1 => by rw [h18]; exact h.2.2.2 i i0 i1⟩
theorem lkP.comp {e : xEn} {R R3 R4 : xR} {n n' l : Int} {D F F' : List (List Int × Int)} (h : lkP e R n l D F R3) (h1 : lkP e R3 n' l (tk (D ++ F)) F' R4) (hn : n ≤ n') : lkP e R n l D (F ++ F') R4 := ⟨h.1.trans h1.1, by rw [← List.append_assoc, ← tk_app]; exact h1.2.1, fun k k0 k1 => by rw [h1.2.2.1 k k0 (by omega)]; exact h.2.2.1 k k0 k1, fun i i0 i1 => by rw [h1.2.2.2 i i0 i1]; exact h.2.2.2 i i0 i1⟩
theorem lkP.nil {e : xEn} {R R1 : xR} {n l : Int} {D F F' : List (List Int × Int)} (h : lkP e R n l D F R1) (hF : F' = []) : lkP e R n l D (F ++ F') R1 := by rw [hF, List.append_nil]; exact h
/-- does the new text go on? -/
theorem gO_iff {G : xGr} {a : auT} (hc : dCo G a) {e : xEn} {st : List Int} {w : Int → Int} {n z : Int} (hn : n = (ndP e st).1) (hw : ∀ k, 0 ≤ k → k < n → w k = (ndP e st).2.2.2.2 k) (hwd : ∀ k, 0 ≤ k → k < n → 0 ≤ w k ∧ w k < 6) (hp : pR G a w n z) : (z < 0 ∨ n ≤ z) ↔ ndG G a e st := by
  unfold ndG
  rw [← hn, ← pz_congr (w := w) hw, pz_eq hc.1 hc.2.1 hc.2.2.1 hwd hp]
set_option maxHeartbeats 8000000 in
set_option maxRecDepth 100000 in
theorem lk_of {σ : xS} (hD : dSh σ) {G : xGr} {a : auT} {u υ : Int → Int} {m eU : Int} {capU : Nat} {p cost guard : Int} (hcost : cost ≤ 3) (hgd : 0 ≤ guard ∧ guard ≤ 3) (j : Nat) (hj : j ≤ 5) (hM : MD σ G a u υ m eU capU p cost guard j) : LK σ G a u υ m eU capU p cost guard j := by
  intro R st D S A P Lf hC hI hlen hNw hSk hFd hS hA hP hL hL0
  refine Ct.of [some (.ref (σ 1).1), some (vi S), some (vi A), some (vi (st.length : Int)), some (vi P), some (vi Lf), some (vi guard), none, none] rfl (by decide +kernel) (lr rfl) (fun X => ?_)
  obtain ⟨Z, hZ⟩ : ∃ Z : xZ, Z = Zv σ (fun R1 => lkP (dEv R p) R S (st.length : Int) D (srF G a (dEv R p) cost guard (j + 2) st 8 0) R1) := ⟨_, rfl⟩
  rw [← hZ]
  have hd1 := hD.1.at 0 (k := 1) (t := 17) (n := 0) rfl
  have heok := hC.2.2.2
  obtain ⟨e, he⟩ : ∃ e, e = dEv R p := ⟨_, rfl⟩
  have e1 : e.1 = R 1 5 := by rw [he]; rfl
  have e8 : e.2.1 = R 8 := by rw [he]; rfl
  have e6 : e.2.2.1 = R 6 := by rw [he]; rfl
  have e7 : e.2.2.2.1 = R 7 := by rw [he]; rfl
  rw [← he] at hI heok hNw hS hA hP hL hZ
  have hrg := ndV.rng heok hI.1 hI.2.1
  have hps := hI.2.2.1
  have hsz := heok.1
  have hput := heok.2.2.1
  have htak := heok.2.2.2.1
  rw [e6] at hput
  rw [e7] at htak
  rw [e1] at hsz
  rw [← hS, ← hA, e1] at hrg
  obtain ⟨w1, w2, w3, w4, w5, w6, w7, w8, w9⟩ := hrg
  rw [← hP] at hps w5
  have hl41 := hFd.1
  have hlen5 : st.length ≤ 5 := by omega
  have hst8 : ∀ i, 0 ≤ i → i < R 1 5 → 0 ≤ R 8 i ∧ R 8 i < 6 := fun i i0 i1 => by
    have := heok.2.1 i i0 (by rw [e1]; exact i1)
    rw [e8] at this; exact this
  -- the facts that stay
  have inv : ∀ (F : List (List Int × Int)) (R1 : xR), lkP e R S (st.length : Int) D F R1 → lkC σ R1 G a u υ m eU capU p ∧ dEv R1 p = e ∧ (∀ b, b = 5 ∨ b = 6 ∨ b = 7 ∨ b = 8 → R1 b = R b) ∧ (∀ j, j ≠ 21 → R1 1 j = R 1 j) ∧ dSk R1 st ∧ (∀ k, 0 ≤ k → k < S → R1 17 k = (ndP e st).2.2.2.2 k) ∧ dFd R1 (tk (D ++ F)) := by
    intro F R1 h
    refine ⟨hC.fz h.1, by rw [h.1.ev, he], fun b hb => h.1.1 b (by omega) (by omega) (by omega) (by omega) (by omega) (by omega) (by omega), h.1.2, fun i hi => by rw [h.2.2.2 i (by omega) (by omega)]; exact hSk i hi, fun k k0 k1 => by rw [h.2.2.1 k k0 k1]; exact hNw k k0 (by omega), h.2.1⟩
  -- a step is made
  have mk : ∀ (F : List (List Int × Int)) (R3 : xR) (c S' A' P' L' : Int), lkP e R S (st.length : Int) D F R3 → (0 ≤ c ∧ c ≤ 7) → ndK G a e cost st c → dNw R3 e (c :: st) → S' = (ndP e (c :: st)).1 → A' = (ndP e (c :: st)).2.1 → P' = (ndP e (c :: st)).2.2.2.1 → L' = cost - (ndP e (c :: st)).2.2.1 →
      Ct m_D_made (6 + 2 * j) 0 0 [.ref (σ 1).1, vi S', vi A', vi (st.length : Int), vi c, vi P', vi L', vi guard] σ R3 (Zv σ (fun R4 => lkP e R3 S' (st.length : Int) (tk (D ++ F)) (sr G a e cost guard (j + 2) st c) R4)) := by
    intro F R3 c S' A' P' L' h3 hc hK hN hS' hA' hP' hL'
    obtain ⟨i1, i2, i3, i4, i5, i6, i7⟩ := inv F R3 h3
    have hI' : ndI e (c :: st) cost := ⟨fun x hx => by
      rcases List.mem_cons.mp hx with rfl | hx
      · exact hc
      · exact hI.1 x hx, ⟨hI.2.1, hK.1⟩, hK.2.1, hK.2.2.1⟩
    have hq := hM R3 c st (tk (D ++ F)) S' A' P' L' i1 (by rw [i2]; exact hI') hlen (by rw [i2]; exact hN) i5 i7 (by rw [i2]; exact hS') (by rw [i2]; exact hA') (by rw [i2]; exact hP') (by rw [i2]; exact hL')
    rw [i2, ← sr_mdF hK] at hq
    exact hq
  have fin : ∀ R1, lkP e R S (st.length : Int) D (srF G a e cost guard (j + 2) st 8 0) R1 → Z (.returned none) σ R1 := fun R1 h => by rw [hZ]; exact ⟨rfl, rfl, h⟩
  have e78 : srF G a e cost guard (j + 2) st 8 0 = (srF G a e cost guard (j + 2) st 6 0 ++ sr G a e cost guard (j + 2) st 6) ++ sr G a e cost guard (j + 2) st 7 := by
    rw [show (8 : Nat) = 7 + 1 by rfl, srF_snoc 7 0, show (7 : Nat) = 6 + 1 by rfl, srF_snoc 6 0]
    rfl
  -- now[stands] is set, and asked whether it goes on
  have gon : ∀ (F : List (List Int × Int)) (R1 R2 : xR) (v : Int), lkP e R S (st.length : Int) D F R1 → R2 = xup R1 17 S v → (0 ≤ S ∧ S < 30) → lkP e R S (st.length : Int) D F R2 ∧ (∀ k, 0 ≤ k → k < S + 1 → R2 17 k = up1 (ndP e st).2.2.2.2 (ndP e st).1 v k) := by
    intro F R1 R2 v h1 h2 hS9
    obtain ⟨i1, i2, i3, i4, i5, i6, i7⟩ := inv F R1 h1
    refine ⟨h1.st (dFz.rf.up h2 (by decide)) (fun k k0 k1 => xr_d h2 (by omega)) (by funext i; exact xr_o h2 (by decide)) (i7.keep (xr_o h2 (by decide)) (fun b hb => by funext i; exact xr_o h2 (by omega))), fun k k0 k1 => ?_⟩
    rw [← hS]
    by_cases c : k = S
    · rw [c, xr_s h2, up1_s]
    · rw [xr_d h2 c, up1_n _ _ c]; exact i6 k k0 (by omega)
  have w16 : ∀ (F : List (List Int × Int)) (R2 R3 : xR), lkP e R S (st.length : Int) D F R2 → (∀ b, b ≠ 16 → R3 b = R2 b) → lkP e R S (st.length : Int) D F R3 := fun F R2 R3 h2 h3 => h2.st (dFz.w16 h3) (fun k _ _ => by rw [h3 17 (by decide)]) (h3 18 (by decide)) (h2.2.1.keep (by rw [h3 1 (by decide)]) (fun b hb => h3 b (by omega)))
  -- passing a letter
  have h175 : ∀ (R1 : xR) (bt : Int), lkP e R S (st.length : Int) D (srF G a e cost guard (j + 2) st 6 0 ++ sr G a e cost guard (j + 2) st 6) R1 → A < R 1 5 → V X m_D_look (7 + 2 * j, 0, 0, Z) σ R1 0 0 175 [some (.ref (σ 1).1), some (vi S), some (vi A), some (vi (st.length : Int)), some (vi P), some (vi Lf), some (vi guard), some (vi bt), some (vi (R 8 A))] [] := by
    intro R1 bt h1 hAs
    have hn8 := hst8 A (by omega) hAs
    have hS30 : S < 30 := by omega
    refine x_aload_n d_D_look_175 0 rfl rfl ?_
    refine x_getc 1 16 17 17 fl_D_56 tk_17_16 hd1 rfl rfl d_D_look_176 ?_
    refine x_iload_n d_D_look_179 1 rfl rfl ?_
    refine x_iload d_D_look_180 rfl ?_
    refine x_iast 17 (hD.1.at 10 rfl) rfl ⟨by decide, rfl, by decide⟩ rfl (by omega) d_D_look_182 (fun R2 hR2 => ?_)
    obtain ⟨h2, h17⟩ := gon _ R1 R2 _ h1 hR2 ⟨w1, hS30⟩
    obtain ⟨i1, i2, i3, i4, i5, i6, i7⟩ := inv _ R2 h2
    have hnx : ndP e (7 :: st) = (S + 1, A + 1, (ndP e st).2.2.1, P + 1, up1 (ndP e st).2.2.2.2 (ndP e st).1 (R 8 A)) := by rw [nd_pass, ← hS, ← hA, ← hP, e8]
    have out : ∀ R3, lkP e R S (st.length : Int) D (srF G a e cost guard (j + 2) st 6 0 ++ sr G a e cost guard (j + 2) st 6) R3 → ¬ ndK G a e cost st 7 → V X m_D_look (7 + 2 * j, 0, 0, Z) σ R3 0 0 225 [some (.ref (σ 1).1), some (vi S), some (vi A), some (vi (st.length : Int)), some (vi P), some (vi Lf), some (vi guard), some (vi bt), some (vi (R 8 A))] [] := fun R3 h3 hno => x_vret d_D_look_225 rfl (lr rfl) (lr rfl) (fin R3 (by rw [e78]; exact h3.nil (sr_no hno)))
    refine x_iload d_D_look_183 rfl ?_
    refine x_iconst d_D_look_185 ?_
    refine x_icmp_ge (tgt := 225) d_D_look_186 rfl (by omega) (by omega) (fun c => ?_) (fun c => ?_)
    · exact out R2 h2 (fun q => by have := q.2.1; rw [hnx] at this; have h' : P + 1 ≤ 3 := this; omega)
    · refine x_iload d_D_look_189 rfl ?_
      refine x_if_le (tgt := 225) d_D_look_191 rfl (by omega) (fun c2 => by omega) (fun c2 => ?_)
      have hwd : ∀ k, 0 ≤ k → k < S + 1 → 0 ≤ R2 17 k ∧ R2 17 k < 6 := fun k k0 k1 => by
        rw [h17 k k0 k1, ← hS]
        by_cases ck : k = S
        · rw [ck, up1_s]; exact hn8
        · rw [up1_n _ _ ck]; exact w9 k k0 (by omega)
      refine x_aload_n d_D_look_194 0 rfl rfl ?_
      refine x_iload_n d_D_look_195 1 rfl rfl ?_
      refine x_iconst d_D_look_196 ?_
      refine x_iadd d_D_look_197 ?_
      refine x_cvm 1 (As := [vi (S + 1)]) (c_D_goesOn hD G a u υ m eU capU i1.1 i1.2.1 i1.2.2.1 (S + 1) (by omega) hwd) cs_D_242 (thisD hD) rfl rfl (lr rfl) d_D_look_198 (by show 5 + 1 ≤ 7 + 2 * j; omega) ⟨lr rfl, lr rfl⟩ (fun z R3 hz => ?_)
      obtain ⟨k3, w, hpr, hzw⟩ := hz
      have h3 := w16 _ R2 R3 h2 k3
      have hiff := gO_iff (e := e) (st := 7 :: st) i1.2.1 (by rw [hnx]) (fun k k0 k1 => by rw [hnx]; exact h17 k k0 k1) hwd hpr
      have hzo := zc_or (w < 0 ∨ S + 1 ≤ w)
      refine x_if_eq (tgt := 225) d_D_look_201 rfl (by omega) (fun c3 => ?_) (fun c3 => ?_)
      · exact out R3 h3 (fun q => zc_eq0.mp (hzw.symm.trans c3) (hiff.mpr (q.2.2.2.resolve_left (by decide))))
      · have hK : ndK G a e cost st 7 := ⟨⟨fun q => by have := q.2; rw [← hA, e1] at this; omega, fun q => by have := q.1; omega⟩, by rw [hnx]; show P + 1 ≤ 3; omega, by rw [hnx]; show (ndP e st).2.2.1 ≤ cost; omega, Or.inr (hiff.mp (zc_ne.mp (fun q => c3 (hzw.trans q))))⟩
        have hmk := mk _ R3 7 (S + 1) (A + 1) (P + 1) Lf h3 (by omega) hK (fun k k0 k1 => by rw [hnx] at k1 ⊢; rw [k3 17 (by decide)]; exact h17 k k0 k1) (by rw [hnx]) (by rw [hnx]) (by rw [hnx]) (by rw [hnx]; exact hL)
        refine x_aload_n d_D_look_204 0 rfl rfl ?_
        refine x_iload_n d_D_look_205 1 rfl rfl ?_
        refine x_iconst d_D_look_206 ?_
        refine x_iadd d_D_look_207 ?_
        refine x_iload_n d_D_look_208 2 rfl rfl ?_
        refine x_iconst d_D_look_209 ?_
        refine x_iadd d_D_look_210 ?_
        refine x_iload_n d_D_look_211 3 rfl rfl ?_
        refine x_bipush d_D_look_212 rfl ?_
        refine x_iload d_D_look_214 rfl ?_
        refine x_iconst d_D_look_216 ?_
        refine x_iadd d_D_look_217 ?_
        refine x_iload d_D_look_218 rfl ?_
        refine x_iload d_D_look_220 rfl ?_
        refine x_cvv 1 (As := [vi (S + 1), vi (A + 1), vi (st.length : Int), vi 7, vi (P + 1), vi Lf, vi guard]) hmk cs_D_245 (thisD hD) rfl rfl (lr rfl) d_D_look_222 (by show 6 + 2 * j + 1 ≤ 7 + 2 * j; omega) ⟨lr rfl, lr rfl⟩ (fun R4 h4 => ?_)
        exact x_vret d_D_look_225 rfl (lr rfl) (lr rfl) (fin R4 (by rw [e78]; exact h3.comp h4 (by omega)))
  -- taking a letter
  have h126 : ∀ (R1 : xR) (bt t8 : Int), lkP e R S (st.length : Int) D (srF G a e cost guard (j + 2) st 6 0) R1 → A < R 1 5 → V X m_D_look (7 + 2 * j, 0, 0, Z) σ R1 0 0 126 [some (.ref (σ 1).1), some (vi S), some (vi A), some (vi (st.length : Int)), some (vi P), some (vi Lf), some (vi guard), some (vi bt), some (vi t8)] [] := by
    intro R1 bt t8 h1 hAs
    have hn8 := hst8 A (by omega) hAs
    obtain ⟨i1, i2, i3, i4, i5, i6, i7⟩ := inv _ R1 h1
    have ht9 := htak (R 8 A) hn8.1 hn8.2
    have hnx : ndP e (6 :: st) = (S, A + 1, (ndP e st).2.2.1 + R 7 (R 8 A), P, (ndP e st).2.2.2.2) := by rw [nd_take, ← hS, ← hA, ← hP, e8, e7]
    refine x_aload_n d_D_look_126 0 rfl rfl ?_
    refine x_getc 1 4 8 8 fl_D_32 tk_17_4 hd1 rfl rfl d_D_look_127 ?_
    refine x_iload_n d_D_look_130 2 rfl rfl ?_
    refine x_iald 8 (R 8 A) (hD.1.at 4 rfl) rfl ⟨by decide, rfl, by decide⟩ rfl (by omega) (by rw [i3 8 (by decide)]) d_D_look_131 ?_
    refine x_istore d_D_look_132 [some (.ref (σ 1).1), some (vi S), some (vi A), some (vi (st.length : Int)), some (vi P), some (vi Lf), some (vi guard), some (vi bt), some (vi (R 8 A))] rfl rfl (lr rfl) ?_
    refine x_aload_n d_D_look_134 0 rfl rfl ?_
    refine x_getc 1 3 5 5 fl_D_28 tk_17_3 hd1 rfl rfl d_D_look_135 ?_
    refine x_iconst d_D_look_138 ?_
    refine x_aald 5 (v := .ref ((σ 7).1)) (hD.1.at 1 rfl) rfl ⟨by decide, rfl, by decide⟩ (by omega) rfl d_D_look_139 ?_
    refine x_iload d_D_look_140 rfl ?_
    refine x_iald 7 (R 7 (R 8 A)) (hD.1.at 3 rfl) rfl ⟨by decide, rfl, by decide⟩ rfl (by omega) (by rw [i3 7 (by decide)]) d_D_look_142 ?_
    refine x_iload d_D_look_143 rfl ?_
    refine x_icmp_gt (tgt := 175) d_D_look_145 rfl (by omega) (by omega) (fun c => ?_) (fun c => ?_)
    · refine h175 R1 bt (h1.nil (sr_no (fun q => ?_))) hAs
      have := q.2.2.1
      rw [hnx] at this
      have h' : (ndP e st).2.2.1 + R 7 (R 8 A) ≤ cost := this
      omega
    · have hK : ndK G a e cost st 6 := ⟨⟨fun q => by have := q.2; rw [← hA, e1] at this; omega, fun q => by have := q.1; omega⟩, by rw [hnx]; show P ≤ 3; omega, by rw [hnx]; show (ndP e st).2.2.1 + R 7 (R 8 A) ≤ cost; omega, Or.inl rfl⟩
      have hmk := mk _ R1 6 S (A + 1) P (Lf - R 7 (R 8 A)) h1 (by omega) hK (fun k k0 k1 => by rw [hnx] at k1 ⊢; exact i6 k k0 k1) (by rw [hnx]) (by rw [hnx]) (by rw [hnx]) (by rw [hnx]; show Lf - R 7 (R 8 A) = cost - ((ndP e st).2.2.1 + R 7 (R 8 A)); omega)
      refine x_aload_n d_D_look_148 0 rfl rfl ?_
      refine x_iload_n d_D_look_149 1 rfl rfl ?_
      refine x_iload_n d_D_look_150 2 rfl rfl ?_
      refine x_iconst d_D_look_151 ?_
      refine x_iadd d_D_look_152 ?_
      refine x_iload_n d_D_look_153 3 rfl rfl ?_
      refine x_bipush d_D_look_154 rfl ?_
      refine x_iload d_D_look_156 rfl ?_
      refine x_iload d_D_look_158 rfl ?_
      refine x_aload_n d_D_look_160 0 rfl rfl ?_
      refine x_getc 1 3 5 5 fl_D_28 tk_17_3 hd1 rfl rfl d_D_look_161 ?_
      refine x_iconst d_D_look_164 ?_
      refine x_aald 5 (v := .ref ((σ 7).1)) (hD.1.at 1 rfl) rfl ⟨by decide, rfl, by decide⟩ (by omega) rfl d_D_look_165 ?_
      refine x_iload d_D_look_166 rfl ?_
      refine x_iald 7 (R 7 (R 8 A)) (hD.1.at 3 rfl) rfl ⟨by decide, rfl, by decide⟩ rfl (by omega) (by rw [i3 7 (by decide)]) d_D_look_168 ?_
      refine x_isub d_D_look_169 ?_
      refine x_iload d_D_look_170 rfl ?_
      refine x_cvv 1 (As := [vi S, vi (A + 1), vi (st.length : Int), vi 6, vi P, vi (Lf - R 7 (R 8 A)), vi guard]) hmk cs_D_245 (thisD hD) rfl rfl (lr rfl) d_D_look_172 (by show 6 + 2 * j + 1 ≤ 7 + 2 * j; omega) ⟨lr rfl, lr rfl⟩ (fun R4 h4 => ?_)
      exact h175 R4 bt (h1.comp h4 (Int.le_refl _)) hAs
  -- behind the letters to put
  have h117 : ∀ (R1 : xR) (bt t8 : Int), lkP e R S (st.length : Int) D (srF G a e cost guard (j + 2) st 6 0) R1 → V X m_D_look (7 + 2 * j, 0, 0, Z) σ R1 0 0 117 [some (.ref (σ 1).1), some (vi S), some (vi A), some (vi (st.length : Int)), some (vi P), some (vi Lf), some (vi guard), some (vi bt), some (vi t8)] [] := by
    intro R1 bt t8 h1
    refine x_iload_n d_D_look_117 2 rfl rfl ?_
    refine x_aload_n d_D_look_118 0 rfl rfl ?_
    refine x_geti 1 5 5 (R 1 5) fl_D_236 tk_17_5 hd1 rfl rfl ((inv _ R1 h1).2.2.2.1 5 (by decide)) d_D_look_119 ?_
    refine x_icmp_ne (tgt := 126) d_D_look_122 rfl (by omega) (by omega) (fun c => ?_) (fun c => ?_)
    · exact h126 R1 bt t8 h1 (by omega)
    · have hno : ∀ x : Int, 6 ≤ x → ¬ ndK G a e cost st x := fun x hx q => q.1.1 ⟨hx, by rw [← hA, e1]; omega⟩
      exact x_vret d_D_look_125 rfl (lr rfl) (lr rfl) (fin R1 (by rw [e78]; exact (h1.nil (sr_no (hno 6 (by omega)))).nil (sr_no (hno 7 (by omega)))))
  -- the letters to put
  have lp : (¬ ∃ st', st = 6 :: st') → ∀ (mw t : Nat) (R1 : xR), 6 - t = mw → t ≤ 6 → lkP e R S (st.length : Int) D (srF G a e cost guard (j + 2) st t 0) R1 → V X m_D_look (7 + 2 * j, 0, 0, Z) σ R1 0 0 37 [some (.ref (σ 1).1), some (vi S), some (vi A), some (vi (st.length : Int)), some (vi P), some (vi Lf), some (vi guard), some (vi 0), some (vi (t : Int))] [] := by
    intro hnt mw
    induction mw using Nat.strongRecOn with
    | _ mw ih =>
      intro t R1 hm ht h1
      obtain ⟨i1, i2, i3, i4, i5, i6, i7⟩ := inv _ R1 h1
      refine x_iload d_D_look_37 rfl ?_
      refine x_bipush d_D_look_39 rfl ?_
      refine x_icmp_ge (tgt := 117) d_D_look_41 rfl (by omega) (by omega) (fun c => ?_) (fun c => ?_)
      · have et : t = 6 := by omega
        rw [et] at h1 ⊢
        exact h117 R1 0 _ h1
      · have hp9 := hput t (by omega) (by omega)
        have hnx : ndP e ((t : Int) :: st) = (S + 1, A, (ndP e st).2.2.1 + R 6 t, P, up1 (ndP e st).2.2.2.2 (ndP e st).1 t) := by rw [nd_put (by omega), ← hS, ← hA, ← hP, e6]
        -- on with the next
        have nx : ∀ (R4 : xR), lkP e R S (st.length : Int) D (srF G a e cost guard (j + 2) st t 0 ++ sr G a e cost guard (j + 2) st t) R4 → V X m_D_look (7 + 2 * j, 0, 0, Z) σ R4 0 0 111 [some (.ref (σ 1).1), some (vi S), some (vi A), some (vi (st.length : Int)), some (vi P), some (vi Lf), some (vi guard), some (vi 0), some (vi (t : Int))] [] := by
          intro R4 h4
          refine x_iinc d_D_look_111 rfl [some (.ref (σ 1).1), some (vi S), some (vi A), some (vi (st.length : Int)), some (vi P), some (vi Lf), some (vi guard), some (vi 0), some (vi ((t + 1 : Nat) : Int))] rfl rfl (lr rfl) ?_
          refine x_goto (tgt := 37) d_D_look_114 rfl ?_
          refine ih _ (by omega) (t + 1) R4 rfl (by omega) ?_
          rw [srF_snoc, Int.zero_add]
          exact h4
        refine x_iload d_D_look_44 rfl ?_
        refine x_if_ne (tgt := 117) d_D_look_46 rfl (by omega) (fun c2 => by omega) (fun c2 => ?_)
        refine x_aload_n d_D_look_49 0 rfl rfl ?_
        refine x_getc 1 3 5 5 fl_D_28 tk_17_3 hd1 rfl rfl d_D_look_50 ?_
        refine x_iconst d_D_look_53 ?_
        refine x_aald 5 (v := .ref ((σ 6).1)) (hD.1.at 1 rfl) rfl ⟨by decide, rfl, by decide⟩ (by omega) rfl d_D_look_54 ?_
        refine x_iload d_D_look_55 rfl ?_
        refine x_iald 6 (R 6 t) (hD.1.at 2 rfl) rfl ⟨by decide, rfl, by decide⟩ rfl (by omega) (by rw [i3 6 (by decide)]) d_D_look_57 ?_
        refine x_iload d_D_look_58 rfl ?_
        refine x_icmp_le (tgt := 66) d_D_look_60 rfl (by omega) (by omega) (fun c3 => ?_) (fun c3 => ?_)
        · have hS30 : S < 30 := by omega
          refine x_aload_n d_D_look_66 0 rfl rfl ?_
          refine x_getc 1 16 17 17 fl_D_56 tk_17_16 hd1 rfl rfl d_D_look_67 ?_
          refine x_iload_n d_D_look_70 1 rfl rfl ?_
          refine x_iload d_D_look_71 rfl ?_
          refine x_iast 17 (hD.1.at 10 rfl) rfl ⟨by decide, rfl, by decide⟩ rfl (by omega) d_D_look_73 (fun R2 hR2 => ?_)
          obtain ⟨h2, h17⟩ := gon _ R1 R2 _ h1 hR2 ⟨w1, hS30⟩
          obtain ⟨j1, j2, j3, j4, j5, j6, j7⟩ := inv _ R2 h2
          have hwd : ∀ k, 0 ≤ k → k < S + 1 → 0 ≤ R2 17 k ∧ R2 17 k < 6 := fun k k0 k1 => by
            rw [h17 k k0 k1, ← hS]
            by_cases ck : k = S
            · rw [ck, up1_s]; omega
            · rw [up1_n _ _ ck]; exact w9 k k0 (by omega)
          refine x_aload_n d_D_look_74 0 rfl rfl ?_
          refine x_iload_n d_D_look_75 1 rfl rfl ?_
          refine x_iconst d_D_look_76 ?_
          refine x_iadd d_D_look_77 ?_
          refine x_cvm 1 (As := [vi (S + 1)]) (c_D_goesOn hD G a u υ m eU capU j1.1 j1.2.1 j1.2.2.1 (S + 1) (by omega) hwd) cs_D_242 (thisD hD) rfl rfl (lr rfl) d_D_look_78 (by show 5 + 1 ≤ 7 + 2 * j; omega) ⟨lr rfl, lr rfl⟩ (fun z R3 hz => ?_)
          obtain ⟨k3, w, hpr, hzw⟩ := hz
          have h3 := w16 _ R2 R3 h2 k3
          have hiff := gO_iff (e := e) (st := (t : Int) :: st) j1.2.1 (by rw [hnx]) (fun k k0 k1 => by rw [hnx]; exact h17 k k0 k1) hwd hpr
          have hzo := zc_or (w < 0 ∨ S + 1 ≤ w)
          refine x_if_eq (tgt := 111) d_D_look_81 rfl (by omega) (fun c4 => ?_) (fun c4 => ?_)
          · exact nx R3 (h3.nil (sr_no (fun q => zc_eq0.mp (hzw.symm.trans c4) (hiff.mpr (q.2.2.2.resolve_left (by omega))))))
          · have hK : ndK G a e cost st t := ⟨⟨fun q => by have := q.1; omega, fun q => hnt q.2⟩, by rw [hnx]; show P ≤ 3; omega, by rw [hnx]; show (ndP e st).2.2.1 + R 6 t ≤ cost; omega, Or.inr (hiff.mp (zc_ne.mp (fun q => c4 (hzw.trans q))))⟩
            have hmk := mk _ R3 t (S + 1) A P (Lf - R 6 t) h3 (by omega) hK (fun k k0 k1 => by rw [hnx] at k1 ⊢; rw [k3 17 (by decide)]; exact h17 k k0 k1) (by rw [hnx]) (by rw [hnx]) (by rw [hnx]) (by rw [hnx]; show Lf - R 6 t = cost - ((ndP e st).2.2.1 + R 6 t); omega)
            obtain ⟨m1, m2, m3, m4, m5, m6, m7⟩ := inv _ R3 h3
            refine x_aload_n d_D_look_84 0 rfl rfl ?_
            refine x_iload_n d_D_look_85 1 rfl rfl ?_
            refine x_iconst d_D_look_86 ?_
            refine x_iadd d_D_look_87 ?_
            refine x_iload_n d_D_look_88 2 rfl rfl ?_
            refine x_iload_n d_D_look_89 3 rfl rfl ?_
            refine x_iload d_D_look_90 rfl ?_
            refine x_iload d_D_look_92 rfl ?_
            refine x_iload d_D_look_94 rfl ?_
            refine x_aload_n d_D_look_96 0 rfl rfl ?_
            refine x_getc 1 3 5 5 fl_D_28 tk_17_3 hd1 rfl rfl d_D_look_97 ?_
            refine x_iconst d_D_look_100 ?_
            refine x_aald 5 (v := .ref ((σ 6).1)) (hD.1.at 1 rfl) rfl ⟨by decide, rfl, by decide⟩ (by omega) rfl d_D_look_101 ?_
            refine x_iload d_D_look_102 rfl ?_
            refine x_iald 6 (R 6 t) (hD.1.at 2 rfl) rfl ⟨by decide, rfl, by decide⟩ rfl (by omega) (by rw [m3 6 (by decide)]) d_D_look_104 ?_
            refine x_isub d_D_look_105 ?_
            refine x_iload d_D_look_106 rfl ?_
            refine x_cvv 1 (As := [vi (S + 1), vi A, vi (st.length : Int), vi t, vi P, vi (Lf - R 6 t), vi guard]) hmk cs_D_245 (thisD hD) rfl rfl (lr rfl) d_D_look_108 (by show 6 + 2 * j + 1 ≤ 7 + 2 * j; omega) ⟨lr rfl, lr rfl⟩ (fun R4 h4 => ?_)
            exact nx R4 (h3.comp h4 (by omega))
        · refine x_goto (tgt := 111) d_D_look_63 rfl ?_
          refine nx R1 (h1.nil (sr_no (fun q => ?_)))
          have := q.2.2.1
          rw [hnx] at this
          have h' : (ndP e st).2.2.1 + R 6 t ≤ cost := this
          omega
  -- no taking comes before
  have h31 : (¬ ∃ st', st = 6 :: st') → V X m_D_look (7 + 2 * j, 0, 0, Z) σ R 0 0 31 [some (.ref (σ 1).1), some (vi S), some (vi A), some (vi (st.length : Int)), some (vi P), some (vi Lf), some (vi guard), none, none] [] := by
    intro hnt
    refine x_iconst d_D_look_31 ?_
    refine x_istore d_D_look_32 [some (.ref (σ 1).1), some (vi S), some (vi A), some (vi (st.length : Int)), some (vi P), some (vi Lf), some (vi guard), some (vi 0), none] rfl rfl (lr rfl) ?_
    refine x_iconst d_D_look_34 ?_
    refine x_istore d_D_look_35 [some (.ref (σ 1).1), some (vi S), some (vi A), some (vi (st.length : Int)), some (vi P), some (vi Lf), some (vi guard), some (vi 0), some (vi ((0 : Nat) : Int))] rfl rfl (lr rfl) ?_
    exact lp hnt _ 0 R rfl (by omega) (lkP.zero hFd)
  refine x_aload_n d_D_look_0 0 rfl rfl ?_
  refine x_geti 1 21 21 (D.length : Int) fl_D_95 tk_17_21 hd1 rfl rfl hFd.2.1 d_D_look_1 ?_
  refine x_bipush d_D_look_4 rfl ?_
  refine x_icmp_le (tgt := 10) d_D_look_6 rfl (by omega) (by omega) (fun c => ?_) (fun c => ?_)
  · refine x_iload_n d_D_look_10 3 rfl rfl ?_
    refine x_if_le (tgt := 31) d_D_look_11 rfl (by omega) (fun c2 => ?_) (fun c2 => ?_)
    · exact h31 (fun ⟨st', q⟩ => by rw [q] at c2; rw [List.length_cons] at c2; omega)
    · obtain ⟨c0, st0, hst0⟩ : ∃ c0 st0, st = c0 :: st0 := by
        cases st with
        | nil => exact absurd c2 (by show ¬ ¬ ((0 : Nat) : Int) ≤ 0; omega)
        | cons c0 st0 => exact ⟨c0, st0, rfl⟩
      have hc0 : 0 ≤ c0 ∧ c0 ≤ 7 := hI.1 c0 (by rw [hst0]; exact List.mem_cons_self)
      have h18 : R 18 ((st.length : Int) - 1) = c0 := by
        have h := hSk (st.length - 1) (by omega)
        rw [show st.length - 1 - (st.length - 1) = 0 by omega, show ((st.length - 1 : Nat) : Int) = (st.length : Int) - 1 by omega, show st.getD 0 0 = c0 by rw [hst0]; rfl] at h
        exact h
      refine x_aload_n d_D_look_14 0 rfl rfl ?_
      refine x_getc 1 17 18 18 fl_D_59 tk_17_17 hd1 rfl rfl d_D_look_15 ?_
      refine x_iload_n d_D_look_18 3 rfl rfl ?_
      refine x_iconst d_D_look_19 ?_
      refine x_isub d_D_look_20 ?_
      refine x_iald 18 c0 (hD.1.at 11 rfl) rfl ⟨by decide, rfl, by decide⟩ rfl (by omega) h18 d_D_look_21 ?_
      refine x_bipush d_D_look_22 rfl ?_
      refine x_icmp_ne (tgt := 31) d_D_look_24 rfl (by omega) (by omega) (fun c3 => ?_) (fun c3 => ?_)
      · exact h31 (fun ⟨st', q⟩ => by rw [hst0] at q; cases q; exact c3 rfl)
      · have hem : srF G a e cost guard (j + 2) st 6 0 = [] := srF_em 6 0 (fun x x0 x1 => sr_no (fun q => q.1.2 ⟨by omega, st0, by rw [hst0]; congr 1⟩))
        refine x_iconst d_D_look_27 ?_
        refine x_goto (tgt := 32) d_D_look_28 rfl ?_
        refine x_istore d_D_look_32 [some (.ref (σ 1).1), some (vi S), some (vi A), some (vi (st.length : Int)), some (vi P), some (vi Lf), some (vi guard), some (vi 1), none] rfl rfl (lr rfl) ?_
        refine x_iconst d_D_look_34 ?_
        refine x_istore d_D_look_35 [some (.ref (σ 1).1), some (vi S), some (vi A), some (vi (st.length : Int)), some (vi P), some (vi Lf), some (vi guard), some (vi 1), some (vi 0)] rfl rfl (lr rfl) ?_
        refine x_iload d_D_look_37 rfl ?_
        refine x_bipush d_D_look_39 rfl ?_
        refine x_icmp_ge (tgt := 117) d_D_look_41 rfl (by omega) (by omega) (fun c4 => by omega) (fun c4 => ?_)
        refine x_iload d_D_look_44 rfl ?_
        refine x_if_ne (tgt := 117) d_D_look_46 rfl (by omega) (fun c5 => ?_) (fun c5 => by omega)
        exact h117 R 1 0 (by rw [hem]; exact lkP.zero hFd)
  · have h41 : D.length = 41 := by omega
    exact x_vret d_D_look_9 rfl (lr rfl) (lr rfl) (fin R ⟨dFz.rf, by rw [tk_full h41]; exact hFd, fun _ _ _ => rfl, fun _ _ _ => rfl⟩)
theorem lk_all {σ : xS} (hD : dSh σ) {G : xGr} {a : auT} {u υ : Int → Int} {m eU : Int} {capU : Nat} {p cost guard : Int} (hcost : cost ≤ 3) (hgd : 0 ≤ guard ∧ guard ≤ 3) : ∀ j : Nat, j ≤ 5 → LK σ G a u υ m eU capU p cost guard j := by
  intro j
  induction j with
  | zero => intro _; exact lk_of hD hcost hgd 0 (by omega) (md_of hD hcost hgd 0 (by omega) (fun i hi => by omega))
  | succ j ih => intro h; exact lk_of hD hcost hgd (j + 1) h (md_of hD hcost hgd (j + 1) h (fun i hi => by rw [show i = j by omega]; exact ih (by omega)))
