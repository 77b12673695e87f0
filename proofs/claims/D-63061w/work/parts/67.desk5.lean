/-! the desk: close (walk printed by gen/desk5.py) -/
/-- what is to be spread for rule j, place p: of the items with what follows < t0 -/
def dSe (G : xGr) (R : xR) (u : Int → Int) (k j p t0 set : Int) : Prop := s7 set ∧ ∀ t', 0 ≤ t' → t' < 7 → (hb set t' ↔ ∃ t, (0 ≤ t ∧ t < t0) ∧ sH R (k + 1) ((j * 5 + p) * 7 + t) ∧ gFs G (u j) (p + 1) t t')
theorem dSe.zero {G : xGr} {R : xR} {u : Int → Int} {k j p : Int} : dSe G R u k j p 0 0 := ⟨by unfold s7; omega, fun t' _ _ => ⟨fun q => absurd q (hb_0 t'), fun ⟨t, a, _⟩ => by omega⟩⟩
theorem dSe.no {G : xGr} {R : xR} {u : Int → Int} {k j p t0 set : Int} (h : dSe G R u k j p t0 set) (hn : ¬ sH R (k + 1) ((j * 5 + p) * 7 + t0)) : dSe G R u k j p (t0 + 1) set := by
  refine ⟨h.1, fun t' a b => (h.2 t' a b).trans ⟨fun ⟨t, c, d⟩ => ⟨t, by omega, d⟩, fun ⟨t, c, d⟩ => ⟨t, ?_, d⟩⟩⟩
  have : t ≠ t0 := fun q => hn (by rw [← q]; exact d.1)
  omega
theorem dSe.yes {G : xGr} {R : xR} {u : Int → Int} {k j p t0 set fz w : Int} (h : dSe G R u k j p t0 set) (hs : sH R (k + 1) ((j * 5 + p) * 7 + t0)) (h0 : 0 ≤ t0 ∧ t0 < 7) (hf7 : s7 fz) (hw7 : s7 w) (hf : ∀ t', 0 ≤ t' → t' < 7 → (gFs G (u j) (p + 1) t0 t' ↔ hb fz t' ∨ hb w t')) : dSe G R u k j p (t0 + 1) (ior set (ior fz w)) := by
  refine ⟨ior_s7 h.1 (ior_s7 hf7 hw7), fun t' a b => ?_⟩
  rw [hb_ior, hb_ior, ← hf t' a b, h.2 t' a b]
  constructor
  · rintro (⟨t, c, d⟩ | q)
    · exact ⟨t, by omega, d⟩
    · exact ⟨t0, by omega, hs, q⟩
  · rintro ⟨t, c, d, f⟩
    by_cases e : t = t0
    · rw [e] at f; exact Or.inr f
    · exact Or.inl ⟨t, by omega, d, f⟩
theorem uOk.rng {G : xGr} {u : Int → Int} {m j : Int} (hw : gW G) (hu : uOk G u m) (hj : 0 ≤ j ∧ j < m) : 0 ≤ u j ∧ u j ≤ 10 := by
  by_cases c : j = 0
  · rw [c, hu.2.1]; omega
  · have := hu.2.2.1 j (by omega) hj.2
    have h1 := this.2.1
    have h2 := hw.1.1.2.1
    exact ⟨this.1, by omega⟩
theorem dPr.keep {G : xGr} {R R1 : xR} (h : dPr G R) (h1 : R1 12 = R 12) (h2 : R1 13 = R 13) (h3 : R1 14 = R 14) : dPr G R1 := by
  unfold dPr dNm at h ⊢
  rw [h1, h2, h3]
  exact h
set_option maxHeartbeats 4000000 in
set_option maxRecDepth 100000 in
theorem c_D_close {σ : xS} {R : xR} (hD : dSh σ) (G : xGr) (u υ : Int → Int) (m e : Int) (cap : Nat) (hUs : dUs σ R G u m υ e cap) (k : Int) (hk : (σ k).2 = (19, 0)) (hk1 : (σ (k + 1)).2 = (37, 7)) (hkr : 1000 ≤ k) (hkd : kAp k υ m e) (hw : gW G) (hl6 : G.2.1 10 = 6) (hpr : dPr G R) (hst0 : dSt R m k) : Ct m_D_close 5 0 0 [.ref (σ 1).1, .ref (σ k).1] σ R (Zv σ (fun R1 => (∀ a, a ≠ k + 1 → R1 a = R a) ∧ dSt R1 m k ∧ dIt R1 u m k = gCl G (dIt R u m k))) := by
  refine Ct.of [some (.ref ((σ 1).1)), some (.ref ((σ k).1)), none, none, none, none, none, none] rfl (by decide +kernel) (lr rfl) (fun X => ?_)
  have hthis := thisD hD
  have hm9 := hUs.1.1
  have hst := thisS hk
  have hl : ∀ (mw : Nat) (R1 : xR) (mo0 : Int), 2 * dN R1 k + mo0.toNat = mw → (mo0 = 0 ∨ mo0 = 1) → (dCl G R R1 u m k) → (mo0 = 0 → (∀ a, a ≠ k + 1 → R1 a = R a) ∧ dSt R1 m k ∧ dIt R1 u m k = gCl G (dIt R u m k)) → V X m_D_close (5, 0, 0, Zv σ (fun R1 => (∀ a, a ≠ k + 1 → R1 a = R a) ∧ dSt R1 m k ∧ dIt R1 u m k = gCl G (dIt R u m k))) σ R1 0 0 2 [some (.ref ((σ 1).1)), some (.ref ((σ k).1)), some (vi mo0), none, none, none, none, none] [] := by
    intro mw
    induction mw using Nat.strongRecOn with
    | _ mw ih =>
      intro R1 mo0 hm hmo0 hC1 hP1
      refine x_iload_n d_D_close_2 2 rfl rfl ?_
      refine x_if_eq (tgt := 170) d_D_close_3 rfl (by omega) (fun c3 => ?_) (fun c3 => ?_)
      · exact x_vret d_D_close_170 rfl (lr rfl) (lr rfl) (⟨rfl, rfl, hP1 (by omega)⟩)
      · refine x_iconst d_D_close_6 ?_
        refine x_istore_n d_D_close_7 2 rfl [some (.ref ((σ 1).1)), some (.ref ((σ k).1)), some (vi 0), none, none, none, none, none] rfl rfl (lr rfl) ?_
        refine x_iconst d_D_close_8 ?_
        refine x_istore_n d_D_close_9 3 rfl [some (.ref ((σ 1).1)), some (.ref ((σ k).1)), some (vi 0), some (vi 0), none, none, none, none] rfl rfl (lr rfl) ?_
        have hmo1 : mo0 = 1 := by omega
        have hl2 : ∀ (mw : Nat) (j : Int) (R2 : xR) (mo : Int), (m - j).toNat = mw → (0 ≤ j ∧ j ≤ m) → (dPa G R R1 R2 u m k j 0 mo) → V X m_D_close (5, 0, 0, Zv σ (fun R1 => (∀ a, a ≠ k + 1 → R1 a = R a) ∧ dSt R1 m k ∧ dIt R1 u m k = gCl G (dIt R u m k))) σ R2 0 0 10 [some (.ref ((σ 1).1)), some (.ref ((σ k).1)), some (vi mo), some (vi j), none, none, none, none] [] := by
          intro mw
          induction mw using Nat.strongRecOn with
          | _ mw ih2 =>
            intro j R2 mo hm2 hj hPa
            have hmo := hPa.m01
            have hUs2 : dUs σ R2 G u m υ e cap := hUs.st hkr hkd hPa.1.1
            have hA3 := hUs2.2.1
            have done167 : m ≤ j → V X m_D_close (5, 0, 0, Zv σ (fun R1 => (∀ a, a ≠ k + 1 → R1 a = R a) ∧ dSt R1 m k ∧ dIt R1 u m k = gCl G (dIt R u m k))) σ R2 0 0 167 [some (.ref ((σ 1).1)), some (.ref ((σ k).1)), some (vi mo), none, none, none, none, none] [] := by
              intro hk9
              refine x_goto (tgt := 2) d_D_close_167 rfl ?_
              have hk8 : j = m := by omega
              rw [hk8] at hPa
              have hms := hPa.meas
              have h11 : (1 : Int).toNat = 1 := rfl
              rw [hmo1] at hm
              rw [h11] at hm
              refine ih _ (by omega) R2 mo rfl hmo hPa.1 (fun q => by rw [q] at hPa; exact hPa.done hUs.1)
            refine x_iload_n d_D_close_10 3 rfl rfl ?_
            refine x_aload_n d_D_close_11 0 rfl rfl ?_
            refine x_getc 1 1 3 3 fl_D_16 tk_17_1 (hD.1.at 0 rfl) rfl rfl d_D_close_12 ?_
            refine x_cvi 3 (As := []) (c_AL_size 3 e m cap hA3) cs_D_128 hA3.rc rfl rfl (lr rfl) d_D_close_15 (lr rfl) ⟨lr rfl, lr rfl⟩ ?_
            refine x_icmp_ge (tgt := 167) d_D_close_18 rfl (by omega) (by omega) (fun c18 => ?_) (fun c18 => ?_)
            · refine V.forget 3 [some (.ref ((σ 1).1)), some (.ref ((σ k).1)), some (vi mo), none, none, none, none, none] rfl ?_
              exact done167 (by omega)
            · have hrj := (hUs2.2.2.2 j (by omega) (by omega)).2.1
              have hlj0 := (hUs2.2.2.2 j (by omega) (by omega)).2.2.2
              have huj : 0 ≤ u j ∧ u j ≤ 10 := uOk.rng hw hUs.1 (by omega)
              have hgj := hw.1.2 (u j) huj.1 huj.2
              have hln : ((G.2.2.1 (u j)).toNat : Int) = G.2.2.1 (u j) := by omega
              refine x_aload_n d_D_close_21 0 rfl rfl ?_
              refine x_getc 1 1 3 3 fl_D_16 tk_17_1 (hD.1.at 0 rfl) rfl rfl d_D_close_22 ?_
              refine x_iload_n d_D_close_25 3 rfl rfl ?_
              refine x_cva 3 (As := [vi j]) (c_AL_get 3 e m cap hA3 j (σ (υ j)).1 (by omega) (hUs2.2.2.2 j (by omega) (by omega)).1) cs_D_131 hA3.rc rfl rfl (lr rfl) d_D_close_26 (lr rfl) ⟨lr rfl, lr rfl⟩ ?_
              refine x_castR (υ j) (hrj.1) rfl d_D_close_29 ?_
              refine x_astore d_D_close_32 [some (.ref ((σ 1).1)), some (.ref ((σ k).1)), some (vi mo), some (vi j), some (.ref ((σ (υ j)).1)), none, none, none] rfl rfl (lr rfl) ?_
              refine x_iconst d_D_close_34 ?_
              refine x_istore d_D_close_35 [some (.ref ((σ 1).1)), some (.ref ((σ k).1)), some (vi mo), some (vi j), some (.ref ((σ (υ j)).1)), some (vi 0), none, none] rfl rfl (lr rfl) ?_
              clear hrj hUs2
              have hl3 : ∀ (mw : Nat) (p : Int) (R2 : xR) (mo : Int), (G.2.2.1 (u j) - p).toNat = mw → (0 ≤ p ∧ p ≤ G.2.2.1 (u j)) → (dPa G R R1 R2 u m k j p mo) → V X m_D_close (5, 0, 0, Zv σ (fun R1 => (∀ a, a ≠ k + 1 → R1 a = R a) ∧ dSt R1 m k ∧ dIt R1 u m k = gCl G (dIt R u m k))) σ R2 0 0 37 [some (.ref ((σ 1).1)), some (.ref ((σ k).1)), some (vi mo), some (vi j), some (.ref ((σ (υ j)).1)), some (vi p), none, none] [] := by
                intro mw
                induction mw using Nat.strongRecOn with
                | _ mw ih3 =>
                  intro p R2 mo hm3 hp hPa
                  have hmo := hPa.m01
                  have hUs2 : dUs σ R2 G u m υ e cap := hUs.st hkr hkd hPa.1.1
                  have hrj := (hUs2.2.2.2 j (by omega) (by omega)).2.1
                  have hpr2 : dPr G R2 := hpr.keep (hPa.1.1 12 (by omega)) (hPa.1.1 13 (by omega)) (hPa.1.1 14 (by omega))
                  refine x_iload d_D_close_37 rfl ?_
                  refine x_aload d_D_close_39 rfl ?_
                  refine x_get3N (υ j) 1 ((υ j) + 1) fl_D_153 tk_18_1 hrj.1 rfl rfl d_D_close_41 ?_
                  refine x_len ((υ j) + 1) hrj.2.1 rfl (by decide) d_D_close_44 ?_
                  refine V.teq (G.2.2.1 (u j)) (hln) ?_
                  refine x_icmp_ge (tgt := 161) d_D_close_45 rfl (by omega) (by omega) (fun c45 => ?_) (fun c45 => ?_)
                  · refine V.forget 4 [some (.ref ((σ 1).1)), some (.ref ((σ k).1)), some (vi mo), some (vi j), none, some (vi p), none, none] rfl ?_
                    refine V.forget 5 [some (.ref ((σ 1).1)), some (.ref ((σ k).1)), some (vi mo), some (vi j), none, none, none, none] rfl ?_
                    refine x_iinc d_D_close_161 rfl [some (.ref ((σ 1).1)), some (.ref ((σ k).1)), some (vi mo), some (vi (j + 1)), none, none, none, none] rfl rfl (lr rfl) ?_
                    refine x_goto (tgt := 10) d_D_close_164 rfl ?_
                    exact ih2 _ (by omega) (j + 1) R2 mo rfl (by omega) (hPa.row (by omega))
                  · have hy9 := dy_cs (G.2.2.2 (u j) p)
                    have hs9 := hgj.2 p (by omega) (by omega)
                    refine x_aload d_D_close_48 rfl ?_
                    refine x_get3N (υ j) 1 ((υ j) + 1) fl_D_153 tk_18_1 hrj.1 rfl rfl d_D_close_50 ?_
                    refine x_iload d_D_close_53 rfl ?_
                    refine x_iald ((υ j) + 1) (dy (G.2.2.2 (u j) p)) hrj.2.1 rfl ⟨by decide, rfl, by omega⟩ rfl (by omega) ((hrj.2.2.2.2.2 p (by omega) (by omega)).1) d_D_close_55 ?_
                    refine x_bipush d_D_close_56 rfl ?_
                    refine x_icmp_ge (tgt := 64) d_D_close_58 rfl (by omega) (by omega) (fun c58 => ?_) (fun c58 => ?_)
                    · refine x_iconst d_D_close_64 ?_
                      refine x_istore d_D_close_65 [some (.ref ((σ 1).1)), some (.ref ((σ k).1)), some (vi mo), some (vi j), some (.ref ((σ (υ j)).1)), some (vi p), some (vi 0), none] rfl rfl (lr rfl) ?_
                      refine x_iconst d_D_close_67 ?_
                      refine x_istore d_D_close_68 [some (.ref ((σ 1).1)), some (.ref ((σ k).1)), some (vi mo), some (vi j), some (.ref ((σ (υ j)).1)), some (vi p), some (vi 0), some (vi 0)] rfl rfl (lr rfl) ?_
                      have h135 : ∀ st : Int, dSe G R2 u k j p 7 st → V X m_D_close (5, 0, 0, Zv σ (fun R1 => (∀ a, a ≠ k + 1 → R1 a = R a) ∧ dSt R1 m k ∧ dIt R1 u m k = gCl G (dIt R u m k))) σ R2 0 0 135 [some (.ref ((σ 1).1)), some (.ref ((σ k).1)), some (vi mo), some (vi j), some (.ref ((σ (υ j)).1)), some (vi p), some (vi st), none] [] := by
                        intro st hSe
                        refine x_aload_n d_D_close_135 0 rfl rfl ?_
                        refine x_aload_n d_D_close_136 1 rfl rfl ?_
                        refine x_aload d_D_close_137 rfl ?_
                        refine x_get3N (υ j) 1 ((υ j) + 1) fl_D_153 tk_18_1 hrj.1 rfl rfl d_D_close_139 ?_
                        refine x_iload d_D_close_142 rfl ?_
                        refine x_iald ((υ j) + 1) (dy (G.2.2.2 (u j) p)) hrj.2.1 rfl ⟨by decide, rfl, by omega⟩ rfl (by omega) ((hrj.2.2.2.2.2 p (by omega) (by omega)).1) d_D_close_144 ?_
                        refine V.teq (7 + (G.2.2.2 (u j) p - 6)) (by omega) ?_
                        refine x_iload d_D_close_145 rfl ?_
                        refine x_cvm 1 (As := [.ref ((σ k).1), vi (7 + (G.2.2.2 (u j) p - 6)), vi st]) (c_D_spread (R := R2) hD G u υ m e cap hUs2 k hk hk1 hkr hkd (G.2.2.2 (u j) p - 6) st (by omega) hSe.1) cs_D_182 hthis rfl rfl (lr rfl) d_D_close_147 (lr rfl) ⟨lr rfl, lr rfl⟩ (fun z1 Q2 hQ2 => ?_)
                        have hz01 := hQ2.m01
                        refine x_if_eq (tgt := 155) d_D_close_150 rfl (by omega) (fun c150 => ?_) (fun c150 => ?_)
                        · refine x_iinc d_D_close_155 rfl [some (.ref ((σ 1).1)), some (.ref ((σ k).1)), some (vi mo), some (vi j), some (.ref ((σ (υ j)).1)), some (vi (p + 1)), some (vi st), none] rfl rfl (lr rfl) ?_
                          refine x_goto (tgt := 37) d_D_close_158 rfl ?_
                          refine V.forget 6 [some (.ref ((σ 1).1)), some (.ref ((σ k).1)), some (vi mo), some (vi j), some (.ref ((σ (υ j)).1)), some (vi (p + 1)), none, none] rfl ?_
                          exact ih3 _ (by omega) (p + 1) Q2 mo rfl (by omega) (dPa.spr hw hUs.1 hl6 (by omega) (by omega) (by omega) hgj.1.2 hPa hSe.2 hQ2 (Or.inl ⟨by omega, rfl⟩))
                        · refine x_iconst d_D_close_153 ?_
                          refine x_istore_n d_D_close_154 2 rfl [some (.ref ((σ 1).1)), some (.ref ((σ k).1)), some (vi 1), some (vi j), some (.ref ((σ (υ j)).1)), some (vi p), some (vi st), none] rfl rfl (lr rfl) ?_
                          refine x_iinc d_D_close_155 rfl [some (.ref ((σ 1).1)), some (.ref ((σ k).1)), some (vi 1), some (vi j), some (.ref ((σ (υ j)).1)), some (vi (p + 1)), some (vi st), none] rfl rfl (lr rfl) ?_
                          refine x_goto (tgt := 37) d_D_close_158 rfl ?_
                          refine V.forget 6 [some (.ref ((σ 1).1)), some (.ref ((σ k).1)), some (vi 1), some (vi j), some (.ref ((σ (υ j)).1)), some (vi (p + 1)), none, none] rfl ?_
                          exact ih3 _ (by omega) (p + 1) Q2 1 rfl (by omega) (dPa.spr hw hUs.1 hl6 (by omega) (by omega) (by omega) hgj.1.2 hPa hSe.2 hQ2 (Or.inr ⟨by omega, rfl⟩))
                      have hl4 : ∀ (mw : Nat) (t : Int) (st : Int), (7 - t).toNat = mw → (0 ≤ t ∧ t ≤ 7) → (dSe G R2 u k j p t st) → V X m_D_close (5, 0, 0, Zv σ (fun R1 => (∀ a, a ≠ k + 1 → R1 a = R a) ∧ dSt R1 m k ∧ dIt R1 u m k = gCl G (dIt R u m k))) σ R2 0 0 70 [some (.ref ((σ 1).1)), some (.ref ((σ k).1)), some (vi mo), some (vi j), some (.ref ((σ (υ j)).1)), some (vi p), some (vi st), some (vi t)] [] := by
                        intro mw
                        induction mw using Nat.strongRecOn with
                        | _ mw ih4 =>
                          intro t st hm4 ht hSe
                          have hz9 := zc_or (sH R2 (k + 1) ((j * 5 + p) * 7 + t))
                          refine x_iload d_D_close_70 rfl ?_
                          refine x_bipush d_D_close_72 rfl ?_
                          refine x_icmp_ge (tgt := 135) d_D_close_74 rfl (by omega) (by omega) (fun c74 => ?_) (fun c74 => ?_)
                          · refine V.forget 7 [some (.ref ((σ 1).1)), some (.ref ((σ k).1)), some (vi mo), some (vi j), some (.ref ((σ (υ j)).1)), some (vi p), some (vi st), none] rfl ?_
                            rw [show t = 7 by omega] at hSe
                            exact h135 st hSe
                          · refine x_aload_n d_D_close_77 1 rfl rfl ?_
                            refine x_iload_n d_D_close_78 3 rfl rfl ?_
                            refine x_iload d_D_close_79 rfl ?_
                            refine x_iload d_D_close_81 rfl ?_
                            refine x_csi  (As := [vi j, vi p, vi t]) (c_S_item j p t) cs_D_170 rfl rfl (lr rfl) d_D_close_83 (lr rfl) ⟨lr rfl, lr rfl⟩ ?_
                            refine x_cvi k (As := [vi ((j * 5 + p) * 7 + t)]) (c_S_has (R := R2) k hk hk1 ((j * 5 + p) * 7 + t) (by omega)) cs_D_179 hst rfl rfl (lr rfl) d_D_close_86 (lr rfl) ⟨lr rfl, lr rfl⟩ ?_
                            refine x_if_eq (tgt := 129) d_D_close_89 rfl (by omega) (fun c89 => ?_) (fun c89 => ?_)
                            · refine x_iinc d_D_close_129 rfl [some (.ref ((σ 1).1)), some (.ref ((σ k).1)), some (vi mo), some (vi j), some (.ref ((σ (υ j)).1)), some (vi p), some (vi st), some (vi (t + 1))] rfl rfl (lr rfl) ?_
                              refine x_goto (tgt := 70) d_D_close_132 rfl ?_
                              exact ih4 _ (by omega) (t + 1) st rfl (by omega) (hSe.no (fun q => by have := zc_t q; omega))
                            · refine x_iload d_D_close_92 rfl ?_
                              refine x_aload_n d_D_close_94 0 rfl rfl ?_
                              refine x_aload d_D_close_95 rfl ?_
                              refine x_iload d_D_close_97 rfl ?_
                              refine x_iconst d_D_close_99 ?_
                              refine x_iadd d_D_close_100 ?_
                              refine x_cvr 1 (As := [.ref ((σ (υ j)).1), vi (p + 1)]) (c_D_firsts (R := R2) hD (υ j) (G.2.1 (u j)) _ (G.2.2.2 (u j)) hrj hpr2.1 (p + 1) (by omega)) cs_D_166 hthis rfl rfl (lr rfl) d_D_close_101 (lr rfl) ⟨lr rfl, lr rfl⟩ (fun z1 hz1 => ?_)
                              obtain ⟨hf7, hfb⟩ := hz1
                              have hf8 := hf7.1
                              refine x_aload_n d_D_close_104 0 rfl rfl ?_
                              refine x_aload d_D_close_105 rfl ?_
                              refine x_iload d_D_close_107 rfl ?_
                              refine x_iconst d_D_close_109 ?_
                              refine x_iadd d_D_close_110 ?_
                              have hz7 := zc_or (∀ i, p + 1 ≤ i → i < ((G.2.2.1 (u j)).toNat : Int) → dE R2 (G.2.2.2 (u j)) i)
                              refine x_cvi 1 (As := [.ref ((σ (υ j)).1), vi (p + 1)]) (c_D_empty (R := R2) hD (υ j) (G.2.1 (u j)) _ (G.2.2.2 (u j)) hrj hpr2.1 (p + 1) (by omega)) cs_D_162 hthis rfl rfl (lr rfl) d_D_close_111 (lr rfl) ⟨lr rfl, lr rfl⟩ ?_
                              refine x_if_eq (tgt := 124) d_D_close_114 rfl (by omega) (fun c114 => ?_) (fun c114 => ?_)
                              · refine x_iconst d_D_close_124 ?_
                                refine x_ior d_D_close_125 (ior z1 0) (iI_ior hf8 (by first | exact (p2_s7 (by omega)).1 | omega)) ?_
                                refine x_ior d_D_close_126 (ior st (ior z1 0)) (iI_ior hSe.1.1 (ior_s7 hf7 (by first | exact (p2_s7 (by omega)) | (unfold s7; omega))).1) ?_
                                refine x_istore d_D_close_127 [some (.ref ((σ 1).1)), some (.ref ((σ k).1)), some (vi mo), some (vi j), some (.ref ((σ (υ j)).1)), some (vi p), some (vi (ior st (ior z1 0))), some (vi t)] rfl rfl (lr rfl) ?_
                                refine x_iinc d_D_close_129 rfl [some (.ref ((σ 1).1)), some (.ref ((σ k).1)), some (vi mo), some (vi j), some (.ref ((σ (υ j)).1)), some (vi p), some (vi (ior st (ior z1 0))), some (vi (t + 1))] rfl rfl (lr rfl) ?_
                                refine x_goto (tgt := 70) d_D_close_132 rfl ?_
                                exact ih4 _ (by omega) (t + 1) (ior st (ior z1 0)) rfl (by omega) (hSe.yes (zc_ne.mp (by omega)) (by omega) hf7 (by unfold s7; omega) (fun t' a b => by
                                  rw [dFs hpr2 (by omega) ⟨by omega, by omega⟩ (fun i i0 i1 => hgj.2 i i0 i1) a, hfb t' a, hln]
                                  refine or_congr Iff.rfl ?_
                                  have hE9 := zc_eq0.mp (show zc (∀ i, p + 1 ≤ i → i < ((G.2.2.1 (u j)).toNat : Int) → dE R2 (G.2.2.2 (u j)) i) = 0 by omega)
                                  rw [hln] at hE9
                                  exact ⟨fun q => absurd q.1 hE9, fun q => absurd q (hb_0 t')⟩))
                              · refine x_iconst d_D_close_117 ?_
                                refine x_iload d_D_close_118 rfl ?_
                                refine x_ishl d_D_close_120 (p2 t) (iI_shl1 (by omega)) ?_
                                refine x_goto (tgt := 125) d_D_close_121 rfl ?_
                                refine x_ior d_D_close_125 (ior z1 (p2 t)) (iI_ior hf8 (by first | exact (p2_s7 (by omega)).1 | omega)) ?_
                                refine x_ior d_D_close_126 (ior st (ior z1 (p2 t))) (iI_ior hSe.1.1 (ior_s7 hf7 (by first | exact (p2_s7 (by omega)) | (unfold s7; omega))).1) ?_
                                refine x_istore d_D_close_127 [some (.ref ((σ 1).1)), some (.ref ((σ k).1)), some (vi mo), some (vi j), some (.ref ((σ (υ j)).1)), some (vi p), some (vi (ior st (ior z1 (p2 t)))), some (vi t)] rfl rfl (lr rfl) ?_
                                refine x_iinc d_D_close_129 rfl [some (.ref ((σ 1).1)), some (.ref ((σ k).1)), some (vi mo), some (vi j), some (.ref ((σ (υ j)).1)), some (vi p), some (vi (ior st (ior z1 (p2 t)))), some (vi (t + 1))] rfl rfl (lr rfl) ?_
                                refine x_goto (tgt := 70) d_D_close_132 rfl ?_
                                exact ih4 _ (by omega) (t + 1) (ior st (ior z1 (p2 t))) rfl (by omega) (hSe.yes (zc_ne.mp (by omega)) (by omega) hf7 (p2_s7 (by omega)) (fun t' a b => by
                                  rw [dFs hpr2 (by omega) ⟨by omega, by omega⟩ (fun i i0 i1 => hgj.2 i i0 i1) a, hfb t' a, hln]
                                  refine or_congr Iff.rfl ?_
                                  rw [hb_p2 (by omega) a]
                                  have hE9 := zc_ne.mp (show zc (∀ i, p + 1 ≤ i → i < ((G.2.2.1 (u j)).toNat : Int) → dE R2 (G.2.2.2 (u j)) i) ≠ 0 by omega)
                                  rw [hln] at hE9
                                  exact ⟨fun q => q.2, fun q => ⟨hE9, q⟩⟩))
                      exact hl4 _ 0 0 rfl (by omega) dSe.zero
                    · refine x_goto (tgt := 155) d_D_close_61 rfl ?_
                      refine x_iinc d_D_close_155 rfl [some (.ref ((σ 1).1)), some (.ref ((σ k).1)), some (vi mo), some (vi j), some (.ref ((σ (υ j)).1)), some (vi (p + 1)), none, none] rfl rfl (lr rfl) ?_
                      refine x_goto (tgt := 37) d_D_close_158 rfl ?_
                      exact ih3 _ (by omega) (p + 1) R2 mo rfl (by omega) (hPa.skip (by omega) (by omega) (by omega) (dCa_let hw.1.1 (by omega)))
              exact hl3 _ 0 R2 mo rfl (by omega) hPa
        exact hl2 _ 0 R1 0 rfl (by omega) (dPa.zero hC1)
  refine x_iconst d_D_close_0 ?_
  refine x_istore_n d_D_close_1 2 rfl [some (.ref ((σ 1).1)), some (.ref ((σ k).1)), some (vi 1), none, none, none, none, none] rfl rfl (lr rfl) ?_
  exact hl _ R 1 rfl (Or.inr rfl) (dCl.rf hst0) (fun q => by omega)
