/-! the desk: build -/
/-- where the three lists' arrays lie -/
def lsN (σ : xS) (e2 e3 e4 f : Int) : Prop := (e2 ≠ e3 ∧ e2 ≠ e4 ∧ e3 ≠ e4) ∧ (1000 ≤ e2 ∧ 1000 ≤ e3 ∧ 1000 ≤ e4) ∧ (e2 < f ∧ e3 < f ∧ e4 < f) ∧ ((σ e2).2.1 = 0 ∨ (σ e2).2.1 = 38) ∧ ((σ e3).2.1 = 0 ∨ (σ e3).2.1 = 38) ∧ ((σ e4).2.1 = 0 ∨ (σ e4).2.1 = 38)
theorem gP.w {g : xGr} (h : gWf g) (h1 : 1 ≤ g.1) : gW (gP g) ∧ (gP g).2.1 10 = 6 := by
  have hE := gP.e h
  have h0 := (h.2.2 0 (Int.le_refl _) (by omega)).1
  have h10 := h.2.1
  have hl : ∀ r, 0 ≤ r → r ≤ 10 → (0 ≤ (gP g).2.2.1 r ∧ (gP g).2.2.1 r ≤ 4) ∧ ∀ k, 0 ≤ k → k < (gP g).2.2.1 r → 0 ≤ (gP g).2.2.2 r k ∧ (gP g).2.2.2 r k ≤ 11 := fun r r0 r1 => by
    by_cases c : r = 10
    · have e1 : (gP g).2.2.1 r = 1 := if_pos c
      refine ⟨by omega, fun k k0 k1 => ?_⟩
      have e2 : (gP g).2.2.2 r k = 6 + g.2.1 0 := if_pos (by omega)
      omega
    · by_cases c2 : g.1 ≤ r
      · have e1 : (gP g).2.2.1 r = 0 := (if_neg c).trans (if_pos ⟨c2, by omega⟩)
        exact ⟨by omega, fun k k0 k1 => by omega⟩
      · have e1 : (gP g).2.2.1 r = g.2.2.1 r := (if_neg c).trans (if_neg (by omega))
        have hr := h.2.2 r r0 (by omega)
        rw [e1]
        refine ⟨hr.2.1, fun k k0 k1 => ?_⟩
        have e2 : (gP g).2.2.2 r k = g.2.2.2 r k := if_neg (by omega)
        rw [e2]
        exact hr.2.2 k k0 k1
  refine ⟨⟨⟨⟨h.1, h.2.1, fun r r0 r1 => ?_⟩, hl⟩, by show (if (10 : Int) = 10 then (1 : Int) else if g.1 ≤ 10 ∧ (10 : Int) < 10 then 0 else g.2.2.1 10) = 1; exact if_pos rfl, by show (if (4 * 10 + 0 : Int) = 40 then 6 + g.2.1 0 else g.2.2.2 10 0) = 6 + (if (0 : Int) = 10 then 6 else g.2.1 0); rw [if_pos (by omega), if_neg (by omega)], h1⟩, by show (if (10 : Int) = 10 then (6 : Int) else g.2.1 10) = 6; exact if_pos rfl⟩
  have r1' : r < g.1 := r1
  have e1 : (gP g).2.1 r = g.2.1 r := if_neg (by omega)
  exact ⟨by rw [e1]; exact (h.2.2 r r0 r1').1, hl r r0 (by omega)⟩
theorem dPr.gE {g g' : xGr} {R : xR} (h : gE g g') (hp : dPr g R) : dPr g' R := ⟨hp.1, fun x x0 x1 => by
  obtain ⟨q1, q2, q3⟩ := hp.2 x x0 x1
  exact ⟨by rw [q1]; exact zc_iff (h.cm x), by rw [q2]; exact zc_iff (h.em x), fun t t0 => (q3 t t0).trans (h.fi x t)⟩⟩
theorem dPl.re {σ : xS} {R : xR} {π : Int → Int} {e n : Int} {cap : Nat} (h : dPl σ R π e n cap) (hc : cap = 0) (e' : Int) (he : 1000 ≤ e') : dPl σ R π e' n cap := by
  obtain ⟨h1, h2, h3, h4, h5, h6⟩ := h
  have hn := h1.2.2.1
  refine ⟨⟨h1.1, h1.2.1, h1.2.2.1, h1.2.2.2.1, Or.inl ⟨hc, ?_⟩⟩, h2, he, h4, fun i i0 i1 => by omega, h6⟩
  rcases h1.2.2.2.2 with q | q
  · exact q.2
  · exact absurd hc q.1
/-- the first state at its start -/
theorem dIt_start {R R1 : xR} {G : xGr} {u : Int → Int} {m k z : Int} (hw : gW G) (hl6 : G.2.1 10 = 6) (hu : uOk G u m) (hz : ∀ c, 0 ≤ c → c < 448 → ¬ sH R (k + 1) c) (h : Spr R R1 k (sP G u m 6 64) z) : dSt R1 m k ∧ dIt R1 u m k = gA0 := by
  have hm := hu.1
  have hs : ∀ i, 0 ≤ i → i < 448 → (sH R1 (k + 1) i ↔ sP G u m 6 64 i) := fun i i0 i1 => by
    rw [h.2.1 i i0 i1]
    exact ⟨fun q => q.resolve_left (hz i i0 i1), Or.inr⟩
  refine ⟨fun i i0 i1 q => ?_, ?_⟩
  · obtain ⟨j, t, q1, q2⟩ := (hs i i0 i1).mp q
    have := q1.1
    have := q1.2.1
    omega
  · funext r p t
    apply propext
    constructor
    · rintro ⟨j, j0, j1, p0, t0, q⟩
      obtain ⟨j', t', q1, q2⟩ := (hs _ (by omega) (by omega)).mp q
      have q3 := q1.1
      have q4 := q1.2.1
      have ej : j' = j ∧ p = 0 ∧ t' = t := by omega
      rw [ej.1, ej.2.2] at q1
      have h6 := q1.2.2.1
      refine ⟨?_, ej.2.1, (hb64 t0.1).mp q1.2.2.2⟩
      by_cases c : j = 0
      · rw [← j1, c]; exact hu.2.1
      · have hg := hu.2.2.1 j (by omega) j0.2
        have := (hw.1.1.2.2 (u j) hg.1 hg.2.1).1
        omega
    · rintro ⟨rfl, rfl, rfl⟩
      refine ⟨0, by omega, hu.2.1, by omega, by omega, (hs _ (by omega) (by omega)).mpr ⟨0, 6, ⟨by omega, by omega, by rw [hu.2.1]; exact hl6, (hb64 (by omega)).mpr rfl⟩, by omega⟩⟩
def bdO (g : xGr) (R' : xR) (u : Int → Int) (m : Int) (π : Int → Int) (n z : Int) : Prop := (z = 1 ∧ ∃ a, auF (gP g) a ∧ a.1 ≤ 40 ∧ R' 1 10 ≤ n ∧ dAu R' u m π a a.1 0) ∨ (z = 0 ∧ R' 1 10 = 40 ∧ ∃ a, auF (gP g) a ∧ 40 < a.1)
def bdZ (σ0 : xS) (R0 : xR) (g : xGr) (e3 e4 f0 : Int) : xZ := fun o σ' R' => ∃ z, o = .returned (some (vi z)) ∧ ∃ (u υ : Int → Int) (m eU : Int) (capU : Nat) (π : Int → Int) (e n : Int) (cap : Nat) (f1 : Int), bC σ0 R0 e3 e4 f0 (gP g) u υ m eU capU σ' R' π e n cap f1 ∧ 10 ≤ capU ∧ (eU = e3 ∨ f0 ≤ eU) ∧ 0 < n ∧ bdO g R' u m π n z
set_option maxHeartbeats 8000000 in
set_option maxRecDepth 100000 in
theorem c_D_build {σ : xS} {R : xR} (hD : dSh σ) (f : Int) (hf : fr f σ) (g : xGr) (ρ : Int → Int) (e2 : Int) (cap2 : Nat) (hRu : dRu σ R g ρ e2 cap2) (hg1 : 1 ≤ g.1) (hpr : dPr g R) (e3 n3 : Int) (cap3 : Nat) (hA3 : alI σ R 3 e3 n3 cap3) (hc3 : cap3 = 0 ∨ 10 ≤ cap3) (π : Int → Int) (e4 n4 : Int) (cap4 : Nat) (hP : dPl σ R π e4 n4 cap4) (hls : lsN σ e2 e3 e4 f) : Ct m_D_build 10 1580 38400 [.ref (σ 1).1] σ R (bdZ σ R g e3 e4 f) := by
  refine Ct.of [some (.ref (σ 1).1), none, none, none, none] rfl (by decide +kernel) (lr rfl) (fun X => ?_)
  obtain ⟨Z, hZ⟩ : ∃ Z : xZ, Z = bdZ σ R g e3 e4 f := ⟨_, rfl⟩
  rw [← hZ]
  obtain ⟨⟨l1, l2, l3⟩, ⟨l4, l5, l6⟩, ⟨l7, l8, l9⟩, l10, l11, l12⟩ := hls
  have hd10 := hD.1.at 0 (k := 1) (t := 17) (n := 0) rfl
  obtain ⟨hw, hl6⟩ := gP.w hRu.1 hg1
  refine v_D_whole hD g ρ e2 e3 f n3 cap2 cap3 hf hRu hg1 hpr hA3 hc3 ⟨l5, l8⟩ l11 l1 (fun σ1 R1 u m eU capU f1 qa hU => ?_)
  obtain ⟨a1, a2, a3, a4, a5, a6, a7, a8, a9⟩ := hU
  have hD1 := hD.ext a1
  have hd1 := hD1.1.at 0 (k := 1) (t := 17) (n := 0) rfl
  have hf9 := hf.1
  have hUs1 := a6.done a4 (by omega)
  have hm := hUs1.1.1
  have hUe := (a6.2.1.arr (by omega)).1
  have hUlt : eU < f1 := a2.lt (by rw [hUe]; exact (by decide : (38 : Nat) ≠ 0))
  have hcU : 10 ≤ capU := by
    have := a6.2.1.2.2.1
    rcases a6.2.2.1 with q | q <;> omega
  refine x_aload_n d_D_build_102 0 rfl rfl ?_
  refine x_iconst d_D_build_103 ?_
  refine x_puti 1 10 10 fp_D_197 tk_17_10 hd1 rfl rfl d_D_build_104 (fun R2 hR2 => ?_)
  have k2 : ∀ a, a ≠ 1 → R2 a = R1 a := fun a h => by funext b; exact xr_o hR2 h
  have r210 : R2 1 10 = 0 := xr_s hR2
  -- the pool's array
  obtain ⟨e, f2, hf2, hee, heU, het, hP2⟩ : ∃ e f2 : Int, (f1 ≤ f2 ∧ fr f2 σ1) ∧ (e = e4 ∨ f ≤ e) ∧ eU ≠ e ∧ ((σ1 e).2.1 = 0 ∨ (σ1 e).2.1 = 38) ∧ dPl σ1 R2 π e n4 cap4 := by
    by_cases c : cap4 = 0
    · refine ⟨f1, f1 + 1, ⟨by omega, a2.mono (by omega)⟩, Or.inr (by omega), by omega, Or.inl (a2.2 f1 (Int.le_refl _)), ?_⟩
      have hn0 := hP.1.2.2.1
      refine (hP.re c f1 (by omega)).ext a1 ?_ (fun h => by omega)
      rw [k2 4 (by decide), a9 4 (by rw [hP.1.1]; decide) (by decide) (by omega)]
    · have h38 : (σ e4).2 = (38, cap4) := by
        rcases hP.1.2.2.2.2 with q | q
        · exact absurd q.1 c
        · exact q.2.2.1
      have hne0 : (σ e4).2.1 ≠ 0 := by rw [h38]; exact (by decide : (38 : Nat) ≠ 0)
      refine ⟨e4, f1, ⟨Int.le_refl _, a2⟩, Or.inl rfl, by omega, Or.inr (by rw [a1 e4 (Or.inl hne0), h38]), ?_⟩
      refine hP.ext a1 ?_ (fun h => ?_)
      · rw [k2 4 (by decide), a9 4 (by rw [hP.1.1]; decide) (by decide) (by omega)]
      · rw [k2 e4 (by omega), a9 e4 hne0 (by omega) (by omega)]
  have hprG : dPr (gP g) R2 := (dPr.gE (gP.e hRu.1) a5).keep (k2 12 (by decide)) (k2 13 (by decide)) (k2 14 (by decide))
  have hUs2 : dUs σ1 R2 (gP g) u m (uRg f ρ u) eU capU := hUs1.mv sx.rf (fun a => a = 1) (fun a _ b2 => k2 a b2) (fun a ha => by
    have := a6.2.2.2.1
    rw [ha, hd1]; exact ⟨by decide, by decide, by decide, by omega⟩)
  have hC2 : bC σ R e3 e4 f (gP g) u (uRg f ρ u) m eU capU σ1 R2 π e n4 cap4 f2 := ⟨a1, hf2.2, by omega, hUs2, hprG, hP2, heU, hee, het, fun a b1 b2 b3 b4 b5 b6 b7 b8 => by rw [k2 a b2]; exact a9 a b1 b3 b5, fun j j1 j2 => by rw [xr_d hR2 j1, a9 1 (by rw [hd10]; decide) (by decide) (by omega)]⟩
  have hn0 := hP2.1.2.2.1
  refine x_aload_n d_D_build_107 0 rfl rfl ?_
  refine x_cv 1 (As := []) (c_D_ready hD1 f2 hf2.2 π e n4 cap4 hP2 (by omega)) cs_D_186 (thisD hD1) rfl rfl (lr rfl) d_D_build_108 (lr rfl) ⟨lr rfl, lr rfl⟩ (fun r σ2 R3 hZ2 => ?_)
  obtain ⟨z1, π', e', n', cap', ⟨y1, y1e⟩, y2, y3, y4, y5, y6, y7, y8, y9, y10⟩ := hZ2
  cases z1
  rw [r210] at y2 y5 y6 y10
  have t37 := y1.rg (i := 0) ⟨Int.le_refl _, y2⟩
  have hC3 : bC σ R e3 e4 f (gP g) u (uRg f ρ u) m eU capU σ2 R3 π' e' n' cap' (f2 + 3) := bC.mv hf hd10 hP.1.1 hC2 y7 y8 (by omega) y1 y2 y1e t37.2.1 t37.2.2 y9 y10 (fun x x0 x1 => by
    have : x = 12 ∨ x = 13 ∨ x = 14 := by omega
    rcases this with rfl | rfl | rfl
    · rw [hD1.1.at 5 (k := 12) (t := 33) (n := 6) rfl]; decide
    · rw [hD1.1.at 6 (k := 13) (t := 33) (n := 6) rfl]; decide
    · rw [hD1.1.at 7 (k := 14) (t := 32) (n := 6) rfl]; decide)
  have e1 : σ2 1 = σ1 1 := y7.at hd1 (by decide)
  have hD2 := hD.ext hC3.1
  have hd2 := hD2.1.at 0 (k := 1) (t := 17) (n := 0) rfl
  have hUs3 := hC3.2.2.2.1
  rw [← e1]
  refine x_aload_n d_D_build_111 0 rfl rfl ?_
  refine x_aload_n d_D_build_112 0 rfl rfl ?_
  refine x_getr 1 11 11 (((σ2 (π' 0)).1 : Int) + 1) fl_D_189 tk_17_11 hd2 rfl rfl y5 d_D_build_113 ?_
  refine x_bipush d_D_build_116 rfl ?_
  refine x_bipush d_D_build_118 rfl ?_
  refine x_cvm 1 (As := [.ref (σ2 (π' 0)).1, vi 13, vi 64]) (c_D_spread hD2 (gP g) u (uRg f ρ u) m eU capU hUs3 (π' 0) t37.1 t37.2.1 t37.2.2 (hUs3.ap t37.2.1) 6 64 (by omega) (by unfold s7; omega)) cs_D_182 (thisD hD2) rfl rfl (lr rfl) d_D_build_120 (lr rfl) ⟨lr rfl, lr rfl⟩ (fun z R4 hS => ?_)
  obtain ⟨s1, s2⟩ := dIt_start hw hl6 hUs3.1 y6 hS
  refine x_pop d_D_build_123 rfl ?_
  refine x_aload_n d_D_build_124 0 rfl rfl ?_
  refine x_aload_n d_D_build_125 0 rfl rfl ?_
  have hS1 := hS.1
  refine x_getr 1 11 11 (((σ2 (π' 0)).1 : Int) + 1) fl_D_189 tk_17_11 hd2 rfl rfl (by rw [hS1 1 (by omega)]; exact y5) d_D_build_126 ?_
  have hkA := hUs3.ap t37.2.1
  refine x_cvv 1 (As := [.ref (σ2 (π' 0)).1]) (c_D_close hD2 (gP g) u (uRg f ρ u) m eU capU (hUs3.st t37.2.2 hkA hS1) (π' 0) t37.1 t37.2.1 t37.2.2 hkA hw hl6 (hC3.2.2.2.2.1.keep (hS1 12 (by omega)) (hS1 13 (by omega)) (hS1 14 (by omega))) s1) cs_D_193 (thisD hD2) rfl rfl (lr rfl) d_D_build_129 (lr rfl) ⟨lr rfl, lr rfl⟩ (fun R5 hR5 => ?_)
  obtain ⟨g1, g2, g3⟩ := hR5
  have k5 : ∀ a, a ≠ π' 0 + 1 → R5 a = R3 a := fun a h => by rw [g1 a h, hS1 a h]
  have hP5 : dPl σ2 R5 π' e' n' cap' := y1.ext sx.rf (k5 4 (by omega)) (fun _ => k5 e' (fun q => by have := (y1.1.arr y2).1; rw [q, t37.2.1] at this; cases this))
  have hC5 : bC σ R e3 e4 f (gP g) u (uRg f ρ u) m eU capU σ2 R5 π' e' n' cap' (f2 + 3) := bC.mv hf hd10 hP.1.1 hC3 sx.rf hC3.2.1 (Int.le_refl _) hP5 y2 (Or.inl rfl) t37.2.1 t37.2.2 (fun j _ => by rw [k5 1 (by omega)]) (fun a _ _ _ _ h => k5 a h) (fun x x0 x1 => by
    have : x = 12 ∨ x = 13 ∨ x = 14 := by omega
    rcases this with rfl | rfl | rfl
    · rw [hD2.1.at 5 (k := 12) (t := 33) (n := 6) rfl]; decide
    · rw [hD2.1.at 6 (k := 13) (t := 33) (n := 6) rfl]; decide
    · rw [hD2.1.at 7 (k := 14) (t := 32) (n := 6) rfl]; decide)
  have r510 : R5 1 10 = 0 := by rw [k5 1 (by omega), y9 10 (by decide), r210]
  refine x_aload_n d_D_build_132 0 rfl rfl ?_
  refine x_cvm 1 (As := []) (c_D_number hD2 π' e' n' cap' hP5 (by omega) (by rw [r510, k5 1 (by omega)]; exact y5)) cs_D_208 (thisD hD2) rfl rfl (lr rfl) d_D_build_133 (lr rfl) ⟨lr rfl, lr rfl⟩ (fun z6 R6 hnu => ?_)
  have hR6 : R6 = xup R5 1 10 1 := by
    unfold nuP at hnu
    rw [r510] at hnu
    rcases hnu with ⟨q, -⟩ | ⟨q, -⟩ | ⟨-, -, q, -⟩
    · omega
    · omega
    · exact q
  have k6 : ∀ a, a ≠ 1 → R6 a = R5 a := fun a h => by funext b; exact xr_o hR6 h
  have hC6 : bC σ R e3 e4 f (gP g) u (uRg f ρ u) m eU capU σ2 R6 π' e' n' cap' (f2 + 3) := by
    obtain ⟨b1, b2, b3, b4, b5, b6, b7, b8, b9, b10⟩ := hC5
    have := b4.2.2.1
    have := b6.2.2.1
    exact ⟨b1, b2, b3, b4.mv sx.rf (fun a => a = 1) (fun a _ q => k6 a q) (fun a ha => by rw [ha, hd2]; exact ⟨by decide, by decide, by decide, by omega⟩), b5.keep (k6 12 (by decide)) (k6 13 (by decide)) (k6 14 (by decide)), b6.ext sx.rf (k6 4 (by decide)) (fun _ => k6 e' (by omega)), b7, b8, b9, fun a c1 c2 c3 c4 c5 c6 c7 c8 => by rw [k6 a c2]; exact b10.1 a c1 c2 c3 c4 c5 c6 c7 c8, fun j j1 j2 => by rw [xr_d hR6 j1]; exact b10.2 j j1 j2⟩
  have r610 : R6 1 10 = 1 := xr_s hR6
  refine x_pop d_D_build_136 rfl ?_
  refine x_iconst d_D_build_137 ?_
  refine x_istore_n d_D_build_138 2 rfl [some (.ref (σ2 1).1), some (.ref qa), some (vi ((0 : Nat) : Int)), none, none] rfl rfl (lr rfl) ?_
  refine x_iload_n d_D_build_139 2 rfl rfl ?_
  refine x_aload_n d_D_build_140 0 rfl rfl ?_
  refine x_geti 1 10 10 1 fl_D_197 tk_17_10 hd2 rfl rfl r610 d_D_build_141 ?_
  refine x_icmp_ge (tgt := 233) d_D_build_144 rfl (by omega) (by omega) (fun c2 => ?_) (fun c2 => ?_)
  · omega
  · refine x_iconst d_D_build_147 ?_
    refine x_istore_n d_D_build_148 3 rfl [some (.ref (σ2 1).1), some (.ref qa), some (vi ((0 : Nat) : Int)), some (vi ((0 : Nat) : Int)), none] rfl rfl (lr rfl) ?_
    refine V.widen (17 + 3 * (13 * 0 + 0)) (800 + 72 * (13 * 0 + 0)) (lr rfl) (lr rfl) ?_
    refine v_D_states (R0 := R) (e3 := e3) (e4 := e4) (G := gP g) (u := u) (υ := uRg f ρ u) (m := m) (eU := eU) (capU := capU) hD hf hP.1.1 hw hl6 (fun σ' R' π e n cap a f1 hC hF h40 hn0 hn hA => ?_) (fun σ' R' π e n cap a f1 hC hF h40 hn0 hs => ?_) _ 0 0 σ2 R6 π' e' n' cap' (auI (gP g)) 0 (f2 + 3) rfl (by show (0 : Int) < 1; omega) (by omega) hC6 (by rw [r610]; omega) (by show (1 : Int) ≤ 40; omega) rfl rfl ⟨r610, fun i i0 i1 => ?_, fun i x i0 x0 x1 h => by omega⟩
    · rw [hZ]
      exact ⟨1, rfl, u, _, m, eU, capU, π, e, n, cap, f1, hC, hcU, a8, hn0, Or.inl ⟨rfl, a, hF, h40, hn, hA⟩⟩
    · rw [hZ]
      exact ⟨0, rfl, u, _, m, eU, capU, π, e, n, cap, f1, hC, hcU, a8, hn0, Or.inr ⟨rfl, hs, a, hF, h40⟩⟩
    · have i1' : i < 1 := i1
      have ei : i = 0 := by omega
      have hk6 : R6 (π' 0 + 1) = R5 (π' 0 + 1) := k6 _ (by omega)
      rw [ei, dIt_eq hk6]
      exact ⟨dSt_eq hk6 g2, by rw [g3, s2]; rfl⟩
