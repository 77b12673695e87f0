/-! the desk: number, next (walks printed by gen/desk7.py) -/
/-- the number of the state at hand -/
def nuP (R : xR) (π : Int → Int) (z : Int) (R1 : xR) : Prop := (R 1 10 = 40 ∧ z = -1 ∧ R1 = R ∧ ∀ k, 0 ≤ k → k < 40 → ¬ alB R (π k) (π (R 1 10))) ∨ ((0 ≤ z ∧ z < R 1 10) ∧ R1 = R ∧ alB R (π z) (π (R 1 10)) ∧ ∀ k, 0 ≤ k → k < z → ¬ alB R (π k) (π (R 1 10))) ∨ (R 1 10 < 40 ∧ z = R 1 10 ∧ R1 = xup R 1 10 (R 1 10 + 1) ∧ ∀ k, 0 ≤ k → k < R 1 10 → ¬ alB R (π k) (π (R 1 10)))
set_option maxHeartbeats 4000000 in
set_option maxRecDepth 100000 in
theorem c_D_number {σ : xS} {R : xR} (hD : dSh σ) (π : Int → Int) (e n : Int) (cap : Nat) (hP : dPl σ R π e n cap) (hs : 0 ≤ R 1 10 ∧ R 1 10 ≤ 40 ∧ R 1 10 < n) (hsp : R 1 11 = ((σ (π (R 1 10))).1 : Int) + 1) : Ct m_D_number 4 0 0 [.ref (σ 1).1] σ R (Zm σ (fun z R1 => nuP R π z R1)) := by
  refine Ct.of [some (.ref ((σ 1).1)), none] rfl (by decide +kernel) (lr rfl) (fun X => ?_)
  have hA := hP.1
  have hns := hP.2.2.2.1
  obtain ⟨t1, t2, t3, t4⟩ := hP.2.2.2.2.1 (R 1 10) hs.1 hs.2.2
  have e37 : ∀ k : Int, (0 ≤ k ∧ k ≤ R 1 10) → (∀ k2, 0 ≤ k2 → k2 < k → ¬ alB R (π k2) (π (R 1 10))) → (k = R 1 10 ∨ (k < R 1 10 ∧ alB R (π k) (π (R 1 10)))) → V X m_D_number (4, 0, 0, Zm σ (fun z R1 => nuP R π z R1)) σ R 0 0 37 [some (.ref ((σ 1).1)), some (vi k)] [] := by
    intro k hk hno hal
    have hor : k = R 1 10 ∨ k < R 1 10 := hal.imp id (fun q => q.1)
    refine x_iload_n d_D_number_37 1 rfl rfl ?_
    refine x_bipush d_D_number_38 rfl ?_
    refine x_icmp_ne (tgt := 45) d_D_number_40 rfl (by omega) (by omega) (fun c40 => ?_) (fun c40 => ?_)
    · refine x_iload_n d_D_number_45 1 rfl rfl ?_
      refine x_aload_n d_D_number_46 0 rfl rfl ?_
      refine x_geti 1 10 10 (R 1 10) fl_D_197 tk_17_10 (hD.1.at 0 rfl) rfl rfl rfl d_D_number_47 ?_
      refine x_icmp_ne (tgt := 63) d_D_number_50 rfl (by omega) (by omega) (fun c50 => ?_) (fun c50 => ?_)
      · refine x_iload_n d_D_number_63 1 rfl rfl ?_
        exact x_iret d_D_number_64 rfl (lr rfl) (lr rfl) (⟨_, rfl, rfl, Or.inr (Or.inl ⟨by omega, rfl, (hal.resolve_left (by omega)).2, hno⟩)⟩)
      · refine x_aload_n d_D_number_53 0 rfl rfl ?_
        refine x_dup d_D_number_54 rfl ?_
        refine x_geti 1 10 10 (R 1 10) fl_D_197 tk_17_10 (hD.1.at 0 rfl) rfl rfl rfl d_D_number_55 ?_
        refine x_iconst d_D_number_58 ?_
        refine x_iadd d_D_number_59 ?_
        refine x_puti 1 10 10 fp_D_197 tk_17_10 (hD.1.at 0 rfl) rfl rfl d_D_number_60 (fun Q1 hQ1 => ?_)
        refine x_iload_n d_D_number_63 1 rfl rfl ?_
        exact x_iret d_D_number_64 rfl (lr rfl) (lr rfl) (⟨_, rfl, rfl, Or.inr (Or.inr ⟨by omega, by omega, hQ1, fun k2 a b => hno k2 a (by omega)⟩)⟩)
    · refine x_iconst d_D_number_43 ?_
      exact x_iret d_D_number_44 rfl (lr rfl) (lr rfl) (⟨_, rfl, rfl, Or.inl ⟨by omega, rfl, rfl, fun k2 a b => hno k2 a (by omega)⟩⟩)
  have hl : ∀ (mw : Nat) (k : Int), (R 1 10 - k).toNat = mw → (0 ≤ k ∧ k ≤ R 1 10) → (∀ k2, 0 ≤ k2 → k2 < k → ¬ alB R (π k2) (π (R 1 10))) → V X m_D_number (4, 0, 0, Zm σ (fun z R1 => nuP R π z R1)) σ R 0 0 2 [some (.ref ((σ 1).1)), some (vi k)] [] := by
    intro mw
    induction mw using Nat.strongRecOn with
    | _ mw ih =>
      intro k hm hk hno
      refine x_iload_n d_D_number_2 1 rfl rfl ?_
      refine x_aload_n d_D_number_3 0 rfl rfl ?_
      refine x_geti 1 10 10 (R 1 10) fl_D_197 tk_17_10 (hD.1.at 0 rfl) rfl rfl rfl d_D_number_4 ?_
      refine x_icmp_ge (tgt := 37) d_D_number_7 rfl (by omega) (by omega) (fun c7 => ?_) (fun c7 => ?_)
      · exact e37 k (by omega) hno (by first | exact Or.inl (by omega) | exact Or.inr ⟨by omega, (zc_ne (p := ∀ c, 0 ≤ c → c < 448 → (sH R (π k + 1) c ↔ sH R (π (R 1 10) + 1) c))).mp (by omega)⟩)
      · obtain ⟨b1, b2, b3, b4⟩ := hP.2.2.2.2.1 k (by omega) (by omega)
        refine x_aload_n d_D_number_10 0 rfl rfl ?_
        refine x_getc 1 9 4 4 fl_D_45 tk_17_9 (hD.1.at 0 rfl) rfl rfl d_D_number_11 ?_
        refine x_iload_n d_D_number_14 1 rfl rfl ?_
        refine x_cva 4 (As := [vi k]) (c_AL_get 4 e n cap hA k (σ (π k)).1 (by omega) b1) cs_D_131 hA.rc rfl rfl (lr rfl) d_D_number_15 (lr rfl) ⟨lr rfl, lr rfl⟩ ?_
        refine x_castS (π k) (b2) rfl d_D_number_18 ?_
        refine x_aload_n d_D_number_21 0 rfl rfl ?_
        refine x_getr 1 11 11 (((σ (π (R 1 10))).1 : Int) + 1) fl_D_189 tk_17_11 (hD.1.at 0 rfl) rfl rfl hsp d_D_number_22 ?_
        have hz9 := zc_or (∀ c, 0 ≤ c → c < 448 → (sH R (π k + 1) c ↔ sH R (π (R 1 10) + 1) c))
        refine x_cvi (π k) (As := [.ref ((σ (π (R 1 10))).1)]) (c_S_alike (R := R) (π k) b2 b3 (π (R 1 10)) t2 t3) cs_D_204 (thisS b2) rfl rfl (lr rfl) d_D_number_25 (lr rfl) ⟨lr rfl, lr rfl⟩ ?_
        refine x_if_ne (tgt := 37) d_D_number_28 rfl (by omega) (fun c28 => ?_) (fun c28 => ?_)
        · exact e37 k (by omega) hno (by first | exact Or.inl (by omega) | exact Or.inr ⟨by omega, (zc_ne (p := ∀ c, 0 ≤ c → c < 448 → (sH R (π k + 1) c ↔ sH R (π (R 1 10) + 1) c))).mp (by omega)⟩)
        · refine x_iinc d_D_number_31 rfl [some (.ref ((σ 1).1)), some (vi (k + 1))] rfl rfl (lr rfl) ?_
          refine x_goto (tgt := 2) d_D_number_34 rfl ?_
          exact ih _ (by omega) (k + 1) rfl (by omega) (fun k2 a b => by by_cases e : k2 = k; (rw [e]; exact (zc_eq0 (p := ∀ c, 0 ≤ c → c < 448 → (sH R (π k + 1) c ↔ sH R (π (R 1 10) + 1) c))).mp (by omega)); exact hno k2 a (by omega))
  refine x_iconst d_D_number_0 ?_
  refine x_istore_n d_D_number_1 1 rfl [some (.ref ((σ 1).1)), some (vi 0)] rfl rfl (lr rfl) ?_
  exact hl _ 0 rfl (by omega) (fun k2 a b => by omega)
/-- the state at hand is that to which the state at region kk leads by the symbol y -/
def nxP (σ : xS) (R : xR) (f : Int) (π : Int → Int) (e n : Int) (G : xGr) (u : Int → Int) (m kk y : Int) (σ' : xS) (R' : xR) : Prop := ∃ (π' : Int → Int) (e' n' : Int) (cap' : Nat), (dPl σ' R' π' e' n' cap' ∧ (e' = e ∨ f ≤ e')) ∧ R 1 10 < n' ∧ n ≤ n' ∧ (∀ i, 0 ≤ i → i < n → π' i = π i) ∧ R' 1 11 = ((σ' (π' (R 1 10))).1 : Int) + 1 ∧ dSt R' m (π' (R 1 10)) ∧ dIt R' u m (π' (R 1 10)) = gCl G (gGd G (dIt R u m kk) y) ∧ sx σ σ' ∧ fr (f + 3) σ' ∧ (∀ j, j ≠ 11 → R' 1 j = R 1 j) ∧ ∀ a, (σ a).2.1 ≠ 0 → a ≠ 1 → a ≠ 4 → a ≠ e → a ≠ π' (R 1 10) + 1 → R' a = R a
theorem dUs.ap {σ : xS} {R : xR} {G : xGr} {u υ : Int → Int} {m e k : Int} {cap : Nat} (h : dUs σ R G u m υ e cap) (hk1 : (σ (k + 1)).2 = (37, 7)) : kAp k υ m e := by
  have hm := h.1.1
  refine ⟨fun q => ?_, fun j j0 j1 => ⟨fun q => ?_, fun q => ?_⟩⟩
  · have := (h.2.1.arr (by omega)).1
    rw [q, hk1] at this
    cases this
  · have := (h.2.2.2 j j0 j1).2.1.1
    rw [q, hk1] at this
    cases this
  · have := (h.2.2.2 j j0 j1).2.1.2.1
    rw [q, hk1] at this
    cases this
theorem dUs.mv {σ σ' : xS} {R R' : xR} {G : xGr} {u υ : Int → Int} {m e : Int} {cap : Nat} (h : dUs σ R G u m υ e cap) (hx : sx σ σ') (P : Int → Prop) (hR : ∀ a, (σ a).2.1 ≠ 0 → ¬ P a → R' a = R a) (hP : ∀ a, P a → a ≠ 3 ∧ (σ a).2.1 ≠ 18 ∧ (σ a).2.1 ≠ 32 ∧ a ≠ e) : dUs σ' R' G u m υ e cap := by
  have hm := h.1.1
  have h3 : (σ 3).2 = (4, 0) := h.2.1.1
  have he := (h.2.1.arr (by omega)).1
  refine h.ext hx (hR 3 (by rw [h3]; decide) (fun q => (hP 3 q).1 rfl)) (hR e (by rw [he]; exact (by decide : (38 : Nat) ≠ 0)) (fun q => (hP e q).2.2.2 rfl)) (fun j j0 j1 => ?_)
  have hr := (h.2.2.2 j j0 j1).2.1
  exact ⟨hR _ (by rw [hr.1]; decide) (fun q => (hP _ q).2.1 (by rw [hr.1])), hR _ (by rw [hr.2.1]; exact (by decide : (32 : Nat) ≠ 0)) (fun q => (hP _ q).2.2.1 (by rw [hr.2.1]))⟩
set_option maxHeartbeats 8000000 in
set_option maxRecDepth 100000 in
theorem v_D_next {X : xCtx} {Z : xZ} {σ : xS} {R : xR} (hD : dSh σ) (G : xGr) (u υ : Int → Int) (m e : Int) (cap : Nat) (hUs : dUs σ R G u m υ e cap) (hw : gW G) (hl6 : G.2.1 10 = 6) (hpr : dPr G R) (sp kk y : Int) (q2 : (σ sp).2 = (19, 0)) (q3 : (σ (sp + 1)).2 = (37, 7)) (q4 : 1000 ≤ sp) (k2 : (σ kk).2 = (19, 0)) (k3 : (σ (kk + 1)).2 = (37, 7)) (hap : kk + 1 ≠ sp + 1) (hy : 0 ≤ y ∧ y ≤ 12) (hz : ∀ c, 0 ≤ c → c < 448 → ¬ sH R (sp + 1) c) (h11 : R 1 11 = ((σ sp).1 : Int) + 1) (hfin : ∀ R3 : xR, (∀ a, a ≠ sp + 1 → R3 a = R a) → dSt R3 m sp → dIt R3 u m sp = gCl G (gGd G (dIt R u m kk) y) → Z (.returned none) σ R3) : V X m_D_next (9, 3, 72, Z) σ R 3 72 4 [some (.ref (σ 1).1), some (.ref (σ kk).1), some (vi y), none, none, none, none, none] [] := by
  have hm9 := hUs.1.1
  have hthis := thisD hD
  have hkd := hUs.ap q3
  have hl : ∀ (mw : Nat) (j : Int) (R1 : xR) (z : Int), (m - j).toNat = mw → (0 ≤ j ∧ j ≤ m) → (Spr R R1 sp (nPa G u m R kk y j 0 0) z) → V X m_D_next (9, 3, 72, Z) σ R1 3 72 12 [some (.ref ((σ 1).1)), some (.ref ((σ kk).1)), some (vi y), some (.ref ((σ sp).1)), some (vi j), none, none, none] [] := by
    intro mw
    induction mw using Nat.strongRecOn with
    | _ mw ih =>
      intro j R1 z hm hj hSp
      have hUs1 : dUs σ R1 G u m υ e cap := hUs.st q4 hkd hSp.1
      have hA3 := hUs1.2.1
      refine x_iload d_D_next_12 rfl ?_
      refine x_aload_n d_D_next_14 0 rfl rfl ?_
      refine x_getc 1 1 3 3 fl_D_16 tk_17_1 (hD.1.at 0 rfl) rfl rfl d_D_next_15 ?_
      refine x_cvi 3 (As := []) (c_AL_size 3 e m cap hA3) cs_D_128 hA3.rc rfl rfl (lr rfl) d_D_next_18 (lr rfl) ⟨lr rfl, lr rfl⟩ ?_
      refine x_icmp_ge (tgt := 127) d_D_next_21 rfl (by omega) (by omega) (fun c21 => ?_) (fun c21 => ?_)
      · refine x_aload_n d_D_next_127 0 rfl rfl ?_
        refine x_aload_n d_D_next_128 3 rfl rfl ?_
        rw [show j = m by omega] at hSp
        obtain ⟨hd7, hd8⟩ := nPa_done hw hUs.1 hz hSp
        have hpr1 : dPr G R1 := hpr.keep (hSp.1 12 (by omega)) (hSp.1 13 (by omega)) (hSp.1 14 (by omega))
        refine x_cvv 1 (As := [.ref ((σ sp).1)]) (c_D_close (R := R1) hD G u υ m e cap hUs1 sp q2 q3 q4 hkd hw hl6 hpr1 hd7) cs_D_193 hthis rfl rfl (lr rfl) d_D_next_129 (lr rfl) ⟨lr rfl, lr rfl⟩ (fun Q1 hQ1 => ?_)
        exact x_vret d_D_next_132 rfl (lr rfl) (lr rfl) (hfin Q1 (fun a ha => (hQ1.1 a ha).trans (hSp.1 a ha)) hQ1.2.1 (by rw [hQ1.2.2, hd8]))
      · have hrj := (hUs1.2.2.2 j (by omega) (by omega)).2.1
        have hlj0 := (hUs1.2.2.2 j (by omega) (by omega)).2.2.2
        have huj : 0 ≤ u j ∧ u j ≤ 10 := uOk.rng hw hUs.1 (by omega)
        have hgj := hw.1.2 (u j) huj.1 huj.2
        have hln : ((G.2.2.1 (u j)).toNat : Int) = G.2.2.1 (u j) := by omega
        refine x_aload_n d_D_next_24 0 rfl rfl ?_
        refine x_getc 1 1 3 3 fl_D_16 tk_17_1 (hD.1.at 0 rfl) rfl rfl d_D_next_25 ?_
        refine x_iload d_D_next_28 rfl ?_
        refine x_cva 3 (As := [vi j]) (c_AL_get 3 e m cap hA3 j (σ (υ j)).1 (by omega) (hUs1.2.2.2 j (by omega) (by omega)).1) cs_D_131 hA3.rc rfl rfl (lr rfl) d_D_next_30 (lr rfl) ⟨lr rfl, lr rfl⟩ ?_
        refine x_castR (υ j) (hrj.1) rfl d_D_next_33 ?_
        refine x_astore d_D_next_36 [some (.ref ((σ 1).1)), some (.ref ((σ kk).1)), some (vi y), some (.ref ((σ sp).1)), some (vi j), some (.ref ((σ (υ j)).1)), none, none] rfl rfl (lr rfl) ?_
        refine x_iconst d_D_next_38 ?_
        refine x_istore d_D_next_39 [some (.ref ((σ 1).1)), some (.ref ((σ kk).1)), some (vi y), some (.ref ((σ sp).1)), some (vi j), some (.ref ((σ (υ j)).1)), some (vi 0), none] rfl rfl (lr rfl) ?_
        clear hrj hUs1
        have hl2 : ∀ (mw : Nat) (p : Int) (R1 : xR) (z : Int), (G.2.2.1 (u j) - p).toNat = mw → (0 ≤ p ∧ p ≤ G.2.2.1 (u j)) → (Spr R R1 sp (nPa G u m R kk y j p 0) z) → V X m_D_next (9, 3, 72, Z) σ R1 3 72 41 [some (.ref ((σ 1).1)), some (.ref ((σ kk).1)), some (vi y), some (.ref ((σ sp).1)), some (vi j), some (.ref ((σ (υ j)).1)), some (vi p), none] [] := by
          intro mw
          induction mw using Nat.strongRecOn with
          | _ mw ih2 =>
            intro p R1 z hm2 hp hSp
            have hUs1 : dUs σ R1 G u m υ e cap := hUs.st q4 hkd hSp.1
            have hrj := (hUs1.2.2.2 j (by omega) (by omega)).2.1
            refine x_iload d_D_next_41 rfl ?_
            refine x_aload d_D_next_43 rfl ?_
            refine x_get3N (υ j) 1 ((υ j) + 1) fl_D_153 tk_18_1 hrj.1 rfl rfl d_D_next_45 ?_
            refine x_len ((υ j) + 1) hrj.2.1 rfl (by decide) d_D_next_48 ?_
            refine V.teq (G.2.2.1 (u j)) (hln) ?_
            refine x_icmp_ge (tgt := 121) d_D_next_49 rfl (by omega) (by omega) (fun c49 => ?_) (fun c49 => ?_)
            · refine V.forget 5 [some (.ref ((σ 1).1)), some (.ref ((σ kk).1)), some (vi y), some (.ref ((σ sp).1)), some (vi j), none, some (vi p), none] rfl ?_
              refine V.forget 6 [some (.ref ((σ 1).1)), some (.ref ((σ kk).1)), some (vi y), some (.ref ((σ sp).1)), some (vi j), none, none, none] rfl ?_
              refine x_iinc d_D_next_121 rfl [some (.ref ((σ 1).1)), some (.ref ((σ kk).1)), some (vi y), some (.ref ((σ sp).1)), some (vi (j + 1)), none, none, none] rfl rfl (lr rfl) ?_
              refine x_goto (tgt := 12) d_D_next_124 rfl ?_
              exact ih _ (by omega) (j + 1) R1 z rfl (by omega) (hSp.iff (fun i _ _ => nPa_row (by omega)))
            · have hy9 := dy_cs (G.2.2.2 (u j) p)
              have hs9 := hgj.2 p (by omega) (by omega)
              refine x_aload d_D_next_52 rfl ?_
              refine x_get3N (υ j) 1 ((υ j) + 1) fl_D_153 tk_18_1 hrj.1 rfl rfl d_D_next_54 ?_
              refine x_iload d_D_next_57 rfl ?_
              refine x_iald ((υ j) + 1) (dy (G.2.2.2 (u j) p)) hrj.2.1 rfl ⟨by decide, rfl, by omega⟩ rfl (by omega) ((hrj.2.2.2.2.2 p (by omega) (by omega)).1) d_D_next_59 ?_
              refine x_iload_n d_D_next_60 2 rfl rfl ?_
              refine x_icmp_eq (tgt := 67) d_D_next_61 rfl (by omega) (by omega) (fun c61 => ?_) (fun c61 => ?_)
              · refine x_iconst d_D_next_67 ?_
                refine x_istore d_D_next_68 [some (.ref ((σ 1).1)), some (.ref ((σ kk).1)), some (vi y), some (.ref ((σ sp).1)), some (vi j), some (.ref ((σ (υ j)).1)), some (vi p), some (vi 0)] rfl rfl (lr rfl) ?_
                have hl3 : ∀ (mw : Nat) (t : Int) (R1 : xR) (z : Int), (7 - t).toNat = mw → (0 ≤ t ∧ t ≤ 7) → (Spr R R1 sp (nPa G u m R kk y j p t) z) → V X m_D_next (9, 3, 72, Z) σ R1 3 72 70 [some (.ref ((σ 1).1)), some (.ref ((σ kk).1)), some (vi y), some (.ref ((σ sp).1)), some (vi j), some (.ref ((σ (υ j)).1)), some (vi p), some (vi t)] [] := by
                  intro mw
                  induction mw using Nat.strongRecOn with
                  | _ mw ih3 =>
                    intro t R1 z hm3 ht hSp
                    have hhe : sH R1 (kk + 1) ((j * 5 + p) * 7 + t) ↔ sH R (kk + 1) ((j * 5 + p) * 7 + t) := sH_eq (hSp.1 (kk + 1) hap) _
                    have hz9 := zc_or (sH R1 (kk + 1) ((j * 5 + p) * 7 + t))
                    refine x_iload d_D_next_70 rfl ?_
                    refine x_bipush d_D_next_72 rfl ?_
                    refine x_icmp_ge (tgt := 115) d_D_next_74 rfl (by omega) (by omega) (fun c74 => ?_) (fun c74 => ?_)
                    · refine V.forget 7 [some (.ref ((σ 1).1)), some (.ref ((σ kk).1)), some (vi y), some (.ref ((σ sp).1)), some (vi j), some (.ref ((σ (υ j)).1)), some (vi p), none] rfl ?_
                      rw [show t = 7 by omega] at hSp
                      refine x_iinc d_D_next_115 rfl [some (.ref ((σ 1).1)), some (.ref ((σ kk).1)), some (vi y), some (.ref ((σ sp).1)), some (vi j), some (.ref ((σ (υ j)).1)), some (vi (p + 1)), none] rfl rfl (lr rfl) ?_
                      refine x_goto (tgt := 41) d_D_next_118 rfl ?_
                      exact ih2 _ (by omega) (p + 1) R1 z rfl (by omega) (hSp.iff (fun i _ _ => nPa_7))
                    · refine x_aload_n d_D_next_77 1 rfl rfl ?_
                      refine x_iload d_D_next_78 rfl ?_
                      refine x_iload d_D_next_80 rfl ?_
                      refine x_iload d_D_next_82 rfl ?_
                      refine x_csi  (As := [vi j, vi p, vi t]) (c_S_item j p t) cs_D_170 rfl rfl (lr rfl) d_D_next_84 (lr rfl) ⟨lr rfl, lr rfl⟩ ?_
                      refine x_cvi kk (As := [vi ((j * 5 + p) * 7 + t)]) (c_S_has (R := R1) kk k2 k3 ((j * 5 + p) * 7 + t) (by omega)) cs_D_179 (thisS k2) rfl rfl (lr rfl) d_D_next_87 (lr rfl) ⟨lr rfl, lr rfl⟩ ?_
                      refine x_if_eq (tgt := 109) d_D_next_90 rfl (by omega) (fun c90 => ?_) (fun c90 => ?_)
                      · refine x_iinc d_D_next_109 rfl [some (.ref ((σ 1).1)), some (.ref ((σ kk).1)), some (vi y), some (.ref ((σ sp).1)), some (vi j), some (.ref ((σ (υ j)).1)), some (vi p), some (vi (t + 1))] rfl rfl (lr rfl) ?_
                        refine x_goto (tgt := 70) d_D_next_112 rfl ?_
                        exact ih3 _ (by omega) (t + 1) R1 z rfl (by omega) (hSp.iff (fun i _ _ => nPa_nt (fun q => by have := zc_t (hhe.mpr q); omega)))
                      · refine x_aload_n d_D_next_93 3 rfl rfl ?_
                        refine x_iload d_D_next_94 rfl ?_
                        refine x_iload d_D_next_96 rfl ?_
                        refine x_iconst d_D_next_98 ?_
                        refine x_iadd d_D_next_99 ?_
                        refine x_iload d_D_next_100 rfl ?_
                        refine x_csi  (As := [vi j, vi (p + 1), vi t]) (c_S_item j (p + 1) t) cs_D_170 rfl rfl (lr rfl) d_D_next_102 (lr rfl) ⟨lr rfl, lr rfl⟩ ?_
                        refine x_cvm sp (As := [vi ((j * 5 + (p + 1)) * 7 + t)]) (c_S_add (R := R1) sp q2 q3 ((j * 5 + (p + 1)) * 7 + t) (by omega)) cs_D_176 (thisS q2) rfl rfl (lr rfl) d_D_next_105 (lr rfl) ⟨lr rfl, lr rfl⟩ (fun z1 Q2 hQ2 => ?_)
                        refine x_pop d_D_next_108 rfl ?_
                        refine x_iinc d_D_next_109 rfl [some (.ref ((σ 1).1)), some (.ref ((σ kk).1)), some (vi y), some (.ref ((σ sp).1)), some (vi j), some (.ref ((σ (υ j)).1)), some (vi p), some (vi (t + 1))] rfl rfl (lr rfl) ?_
                        refine x_goto (tgt := 70) d_D_next_112 rfl ?_
                        exact ih3 _ (by omega) (t + 1) Q2 _ rfl (by omega) ((hSp.add (by omega) hQ2.1 hQ2.2.1 hQ2.2.2).iff (fun i _ _ => by rw [show (j * 5 + (p + 1)) * 7 + t = (j * 5 + p + 1) * 7 + t by omega]; exact nPa_yt ⟨by omega, by omega, by omega, by omega, hhe.mp (zc_ne.mp (by omega))⟩))
                exact hl3 _ 0 R1 z rfl (by omega) hSp
              · refine x_goto (tgt := 115) d_D_next_64 rfl ?_
                refine x_iinc d_D_next_115 rfl [some (.ref ((σ 1).1)), some (.ref ((σ kk).1)), some (vi y), some (.ref ((σ sp).1)), some (vi j), some (.ref ((σ (υ j)).1)), some (vi (p + 1)), none] rfl rfl (lr rfl) ?_
                refine x_goto (tgt := 41) d_D_next_118 rfl ?_
                exact ih2 _ (by omega) (p + 1) R1 z rfl (by omega) (hSp.iff (fun i _ _ => nPa_no (by omega)))
        exact hl2 _ 0 R1 z rfl (by omega) hSp
  refine x_aload_n d_D_next_4 0 rfl rfl ?_
  refine x_getr 1 11 11 (((σ sp).1 : Int) + 1) fl_D_189 tk_17_11 (hD.1.at 0 rfl) rfl rfl h11 d_D_next_5 ?_
  refine x_astore_n d_D_next_8 3 rfl [some (.ref ((σ 1).1)), some (.ref ((σ kk).1)), some (vi y), some (.ref ((σ sp).1)), none, none, none, none] rfl rfl (lr rfl) ?_
  refine x_iconst d_D_next_9 ?_
  refine x_istore d_D_next_10 [some (.ref ((σ 1).1)), some (.ref ((σ kk).1)), some (vi y), some (.ref ((σ sp).1)), some (vi 0), none, none, none] rfl rfl (lr rfl) ?_
  exact hl _ 0 R 0 rfl (by omega) (Spr.zero.iff (fun i _ _ => nPa_0))
set_option maxHeartbeats 8000000 in
set_option maxRecDepth 100000 in
theorem c_D_next {σ : xS} {R : xR} (hD : dSh σ) (f : Int) (hf : fr f σ) (π : Int → Int) (e n : Int) (cap : Nat) (hP : dPl σ R π e n cap) (hs : 0 ≤ R 1 10 ∧ R 1 10 ≤ n ∧ R 1 10 ≤ 40) (G : xGr) (u υ : Int → Int) (m eU : Int) (capU : Nat) (hUs : dUs σ R G u m υ eU capU) (hee : eU ≠ e) (hw : gW G) (hl6 : G.2.1 10 = 6) (hpr : dPr G R) (k y : Int) (hk : 0 ≤ k ∧ k < R 1 10) (hy : 0 ≤ y ∧ y ≤ 12) : Ct m_D_next 9 3 72 [.ref (σ 1).1, .ref (σ (π k)).1, vi y] σ R (fun o σ' R' => o = .returned none ∧ nxP σ R f π e n G u m (π k) y σ' R') := by
  refine Ct.of [some (.ref (σ 1).1), some (.ref (σ (π k)).1), some (vi y), none, none, none, none, none] rfl (by decide +kernel) (lr rfl) (fun X => ?_)
  obtain ⟨Z, hZ⟩ : ∃ Z : xZ, Z = (fun o σ' R' => o = .returned none ∧ nxP σ R f π e n G u m (π k) y σ' R') := ⟨_, rfl⟩
  rw [← hZ]
  have hd1 := hD.1.at 0 (k := 1) (t := 17) (n := 0) rfl
  have hm9 := hUs.1.1
  obtain ⟨p1, p2, p3, p4⟩ := hP.2.2.2.2.1 k hk.1 (by omega)
  refine x_aload_n d_D_next_0 0 rfl rfl ?_
  refine x_cv 1 (As := []) (c_D_ready hD f hf π e n cap hP hs) cs_D_186 (thisD hD) rfl rfl (lr rfl) d_D_next_1 (lr rfl) ⟨lr rfl, lr rfl⟩ (fun r σ2 R2 hZ2 => ?_)
  obtain ⟨z1, π', e', n', cap', ⟨y1, y1e⟩, y2, y3, y4, y5, y6, y7, y8, y9, y10⟩ := hZ2
  cases z1
  have hD2 := hD.ext y7
  have e1 : σ2 1 = σ 1 := y7.at hd1 (by decide)
  have ek : σ2 (π k) = σ (π k) := y7.at p2 (by decide)
  have ek1 : σ2 (π k + 1) = σ (π k + 1) := y7.at p3 (by decide)
  have hkk : π' k = π k := y4 k hk.1 (by omega)
  obtain ⟨b1, b2, b3, b4⟩ := y1.2.2.2.2.1 (R 1 10) hs.1 y2
  have hap : π k ≠ π' (R 1 10) ∧ π k ≠ π' (R 1 10) + 1 := by
    rw [← hkk]
    exact y1.2.2.2.2.2 k (R 1 10) hk.1 (by omega) hs.1 y2 (by omega)
  have hap2 : π k + 1 ≠ π' (R 1 10) + 1 := by omega
  have hne : 0 < n := by omega
  have hUs2 : dUs σ2 R2 G u m υ eU capU := hUs.mv y7 (fun a => a = 1 ∨ a = 4 ∨ a = e ∨ a = π' (R 1 10) + 1) (fun a a1 a2 => y10 a a1 (fun q => a2 (Or.inl q)) (fun q => a2 (Or.inr (Or.inl q))) (fun q => a2 (Or.inr (Or.inr (Or.inl q)))) (fun q => a2 (Or.inr (Or.inr (Or.inr q))))) (fun a ha => by
    have hA4 : (σ 4).2 = (4, 0) := hP.1.1
    have hAe := (hP.1.arr hne).1
    rcases ha with rfl | rfl | rfl | rfl
    · rw [hd1]; exact ⟨by decide, by decide, by decide, by have := hUs.2.2.1; omega⟩
    · rw [hA4]; exact ⟨by decide, by decide, by decide, by have := hUs.2.2.1; omega⟩
    · rw [hAe]; exact ⟨by have := hP.2.2.1; omega, by show (38 : Nat) ≠ 18; decide, by show (38 : Nat) ≠ 32; decide, fun q => hee q.symm⟩
    · have hq : (σ (π' (R 1 10) + 1)).2.1 ≠ 18 ∧ (σ (π' (R 1 10) + 1)).2.1 ≠ 32 ∧ π' (R 1 10) + 1 ≠ eU := by
        by_cases c : (σ (π' (R 1 10) + 1)).2.1 = 0
        · refine ⟨by rw [c]; decide, by rw [c]; decide, fun q => ?_⟩
          have := (hUs.2.1.arr (by omega)).1
          rw [q, this] at c
          cases c
        · have h1 := y7 _ (Or.inl c)
          rw [h1] at b3
          refine ⟨by rw [b3]; show (37 : Nat) ≠ 18; decide, by rw [b3]; show (37 : Nat) ≠ 32; decide, fun q => ?_⟩
          have := (hUs.2.1.arr (by omega)).1
          rw [← q, b3] at this
          cases this
      exact ⟨by omega, hq.1, hq.2.1, hq.2.2⟩)
  have hpr2 : dPr G R2 := hpr.keep (y10 12 (by rw [hD.1.at 5 (k := 12) (t := 33) (n := 6) rfl]; decide) (by decide) (by decide) (by have := hP.2.2.1; omega) (by omega)) (y10 13 (by rw [hD.1.at 6 (k := 13) (t := 33) (n := 6) rfl]; decide) (by decide) (by decide) (by have := hP.2.2.1; omega) (by omega)) (y10 14 (by rw [hD.1.at 7 (k := 14) (t := 32) (n := 6) rfl]; decide) (by decide) (by decide) (by have := hP.2.2.1; omega) (by omega))
  have hkR : R2 (π k + 1) = R (π k + 1) := y10 _ (by rw [p3]; decide) (by omega) (by omega) (fun q => by have := (hP.1.arr hne).1; rw [← q, p3] at this; cases this) hap2
  have hdI : dIt R u m (π k) = dIt R2 u m (π k) := by
    funext r p t
    unfold dIt sH
    rw [hkR]
  have hfin : ∀ R3 : xR, (∀ a, a ≠ π' (R 1 10) + 1 → R3 a = R2 a) → dSt R3 m (π' (R 1 10)) → dIt R3 u m (π' (R 1 10)) = gCl G (gGd G (dIt R2 u m (π k)) y) → Z (.returned none) σ2 R3 := by
    intro R3 g1 g2 g3
    rw [hZ]
    refine ⟨rfl, π', e', n', cap', ⟨y1.ext sx.rf (g1 4 (by omega)) (fun _ => g1 e' (fun q => by have := (y1.1.arr (by omega)).1; rw [q, b3] at this; cases this)), y1e⟩, y2, y3, y4, by rw [g1 1 (by omega)]; exact y5, g2, by rw [g3, hdI], y7, y8, fun j hj => by rw [g1 1 (by omega)]; exact y9 j hj, fun a a1 a2 a3 a4 a5 => by rw [g1 a a5]; exact y10 a a1 a2 a3 a4 a5⟩
  have st10 : R2 1 10 = R 1 10 := y9 10 (by decide)
  rw [← e1, ← ek]
  have q2 : (σ2 (π k)).2 = (19, 0) := by rw [ek]; exact p2
  have q3 : (σ2 (π k + 1)).2 = (37, 7) := by rw [ek1]; exact p3
  have hA3 := hUs2.2.1
  exact v_D_next hD2 G u υ m eU capU hUs2 hw hl6 hpr2 (π' (R 1 10)) (π k) y b2 b3 b4 q2 q3 hap2 hy y6 y5 hfin
