/-! the desk: spread (walk printed by gen/desk4.py) -/
/-- the state at region k is apart from the used rules and their list's array -/
def kAp (k : Int) (υ : Int → Int) (m e : Int) : Prop := e ≠ k + 1 ∧ ∀ j, 0 ≤ j → j < m → υ j ≠ k + 1 ∧ υ j + 1 ≠ k + 1
theorem dUs.st {σ : xS} {R R1 : xR} {G : xGr} {u υ : Int → Int} {m e k : Int} {cap : Nat} (h : dUs σ R G u m υ e cap) (hkr : 1000 ≤ k) (hkd : kAp k υ m e) (h1 : ∀ a, a ≠ k + 1 → R1 a = R a) : dUs σ R1 G u m υ e cap :=
  h.keep (h1 3 (by omega)) (h1 e hkd.1) (fun j j0 j1 => ⟨h1 _ (hkd.2 j j0 j1).1, h1 _ (hkd.2 j j0 j1).2⟩)
set_option maxHeartbeats 4000000 in
set_option maxRecDepth 100000 in
theorem c_D_spread {σ : xS} {R : xR} (hD : dSh σ) (G : xGr) (u υ : Int → Int) (m e : Int) (cap : Nat) (hUs : dUs σ R G u m υ e cap) (k : Int) (hk : (σ k).2 = (19, 0)) (hk1 : (σ (k + 1)).2 = (37, 7)) (hkr : 1000 ≤ k) (hkd : kAp k υ m e) (x f : Int) (hx : 0 ≤ x ∧ x ≤ 6) (hf : s7 f) : Ct m_D_spread 4 0 0 [.ref (σ 1).1, .ref (σ k).1, vi (7 + x), vi f] σ R (Zm σ (fun z R1 => Spr R R1 k (sP G u m x f) z)) := by
  refine Ct.of [some (.ref ((σ 1).1)), some (.ref ((σ k).1)), some (vi (7 + x)), some (vi f), none, none, none] rfl (by decide +kernel) (lr rfl) (fun X => ?_)
  have hthis := thisD hD
  have hm9 := hUs.1.1
  have hst := thisS hk
  have hl : ∀ (mw : Nat) (j : Int) (R1 : xR) (z : Int), (m - j).toNat = mw → (0 ≤ j ∧ j ≤ m) → (Spr R R1 k (sPa G u m x f j 0) z) → V X m_D_spread (4, 0, 0, Zm σ (fun z R1 => Spr R R1 k (sP G u m x f) z)) σ R1 0 0 6 [some (.ref ((σ 1).1)), some (.ref ((σ k).1)), some (vi (7 + x)), some (vi f), some (vi z), some (vi j), none] [] := by
    intro mw
    induction mw using Nat.strongRecOn with
    | _ mw ih =>
      intro j R1 z hm hj hSp
      have hUs1 : dUs σ R1 G u m υ e cap := hUs.st hkr hkd hSp.1
      have hA3 := hUs1.2.1
      refine x_iload d_D_spread_6 rfl ?_
      refine x_aload_n d_D_spread_8 0 rfl rfl ?_
      refine x_getc 1 1 3 3 fl_D_16 tk_17_1 (hD.1.at 0 rfl) rfl rfl d_D_spread_9 ?_
      refine x_cvi 3 (As := []) (c_AL_size 3 e m cap hA3) cs_D_128 hA3.rc rfl rfl (lr rfl) d_D_spread_12 (lr rfl) ⟨lr rfl, lr rfl⟩ ?_
      refine x_icmp_ge (tgt := 89) d_D_spread_15 rfl (by omega) (by omega) (fun c15 => ?_) (fun c15 => ?_)
      · refine x_iload d_D_spread_89 rfl ?_
        exact x_zret d_D_spread_91 rfl (narz hSp.m01) (lr rfl) (lr rfl) (⟨_, rfl, rfl, hSp.iff (fun i _ _ => sPa_end (by omega))⟩)
      · have hrj := (hUs1.2.2.2 j (by omega) (by omega)).2.1
        have hl9 := hrj.2.2.2.2.1
        refine x_aload_n d_D_spread_18 0 rfl rfl ?_
        refine x_getc 1 1 3 3 fl_D_16 tk_17_1 (hD.1.at 0 rfl) rfl rfl d_D_spread_19 ?_
        refine x_iload d_D_spread_22 rfl ?_
        refine x_cva 3 (As := [vi j]) (c_AL_get 3 e m cap hA3 j (σ (υ j)).1 (by omega) (hUs1.2.2.2 j (by omega) (by omega)).1) cs_D_131 hA3.rc rfl rfl (lr rfl) d_D_spread_24 (lr rfl) ⟨lr rfl, lr rfl⟩ ?_
        refine x_castR (υ j) (hrj.1) rfl d_D_spread_27 ?_
        refine x_getiN (υ j) 0 0 (7 + G.2.1 (u j)) fl_D_156 tk_18_0 hrj.1 rfl rfl hrj.2.2.2.1 d_D_spread_30 ?_
        refine x_iload_n d_D_spread_33 2 rfl rfl ?_
        refine x_icmp_eq (tgt := 40) d_D_spread_34 rfl (by omega) (by omega) (fun c34 => ?_) (fun c34 => ?_)
        · refine x_iconst d_D_spread_40 ?_
          refine x_istore d_D_spread_41 [some (.ref ((σ 1).1)), some (.ref ((σ k).1)), some (vi (7 + x)), some (vi f), some (vi z), some (vi j), some (vi 0)] rfl rfl (lr rfl) ?_
          have hl2 : ∀ (mw : Nat) (t : Int) (R1 : xR) (z : Int), (7 - t).toNat = mw → (0 ≤ t ∧ t ≤ 7) → (Spr R R1 k (sPa G u m x f j t) z) → V X m_D_spread (4, 0, 0, Zm σ (fun z R1 => Spr R R1 k (sP G u m x f) z)) σ R1 0 0 43 [some (.ref ((σ 1).1)), some (.ref ((σ k).1)), some (vi (7 + x)), some (vi f), some (vi z), some (vi j), some (vi t)] [] := by
            intro mw
            induction mw using Nat.strongRecOn with
            | _ mw ih2 =>
              intro t R1 z hm2 ht hSp
              have hzo9 := zc_or (hb f t)
              refine x_iload d_D_spread_43 rfl ?_
              refine x_bipush d_D_spread_45 rfl ?_
              refine x_icmp_ge (tgt := 83) d_D_spread_47 rfl (by omega) (by omega) (fun c47 => ?_) (fun c47 => ?_)
              · refine V.forget 6 [some (.ref ((σ 1).1)), some (.ref ((σ k).1)), some (vi (7 + x)), some (vi f), some (vi z), some (vi j), none] rfl ?_
                rw [show t = 7 by omega] at hSp
                refine x_iinc d_D_spread_83 rfl [some (.ref ((σ 1).1)), some (.ref ((σ k).1)), some (vi (7 + x)), some (vi f), some (vi z), some (vi (j + 1)), none] rfl rfl (lr rfl) ?_
                refine x_goto (tgt := 6) d_D_spread_86 rfl ?_
                exact ih _ (by omega) (j + 1) R1 z rfl (by omega) (hSp.iff (fun i _ _ => sPa_7))
              · refine x_iload_n d_D_spread_50 3 rfl rfl ?_
                refine x_iload d_D_spread_51 rfl ?_
                refine x_ishr d_D_spread_53 (ishr f t) (iI_ishr hf (by omega)) ?_
                refine x_iconst d_D_spread_54 ?_
                refine x_iand d_D_spread_55 (zc (hb f t)) (iI_bit hf (by omega)) ?_
                refine x_iconst d_D_spread_56 ?_
                refine x_icmp_ne (tgt := 77) d_D_spread_57 rfl (by have := zc_or (hb f t); omega) (by omega) (fun c57 => ?_) (fun c57 => ?_)
                · refine x_iinc d_D_spread_77 rfl [some (.ref ((σ 1).1)), some (.ref ((σ k).1)), some (vi (7 + x)), some (vi f), some (vi z), some (vi j), some (vi (t + 1))] rfl rfl (lr rfl) ?_
                  refine x_goto (tgt := 43) d_D_spread_80 rfl ?_
                  exact ih2 _ (by omega) (t + 1) R1 z rfl (by omega) (hSp.iff (fun i _ _ => sPa_no (fun q => by have := zc_t q; omega)))
                · refine x_iload d_D_spread_60 rfl ?_
                  refine x_aload_n d_D_spread_62 1 rfl rfl ?_
                  refine x_iload d_D_spread_63 rfl ?_
                  refine x_iconst d_D_spread_65 ?_
                  refine x_iload d_D_spread_66 rfl ?_
                  refine x_csi  (As := [vi j, vi 0, vi t]) (c_S_item j 0 t) cs_D_170 rfl rfl (lr rfl) d_D_spread_68 (lr rfl) ⟨lr rfl, lr rfl⟩ ?_
                  refine x_cvm k (As := [vi ((j * 5 + 0) * 7 + t)]) (c_S_add (R := R1) k hk hk1 ((j * 5 + 0) * 7 + t) (by omega)) cs_D_176 hst rfl rfl (lr rfl) d_D_spread_71 (lr rfl) ⟨lr rfl, lr rfl⟩ (fun z1 Q2 hQ2 => ?_)
                  have hzz := zc_or (¬ sH R1 (k + 1) ((j * 5 + 0) * 7 + t))
                  have hze := hQ2.1
                  refine x_ior d_D_spread_74 (zc (z ≠ 0 ∨ z1 ≠ 0)) (iI_zor hSp.m01 (by omega)) ?_
                  refine x_istore d_D_spread_75 [some (.ref ((σ 1).1)), some (.ref ((σ k).1)), some (vi (7 + x)), some (vi f), some (vi (zc (z ≠ 0 ∨ z1 ≠ 0))), some (vi j), some (vi t)] rfl rfl (lr rfl) ?_
                  refine x_iinc d_D_spread_77 rfl [some (.ref ((σ 1).1)), some (.ref ((σ k).1)), some (vi (7 + x)), some (vi f), some (vi (zc (z ≠ 0 ∨ z1 ≠ 0))), some (vi j), some (vi (t + 1))] rfl rfl (lr rfl) ?_
                  refine x_goto (tgt := 43) d_D_spread_80 rfl ?_
                  exact ih2 _ (by omega) (t + 1) Q2 (zc (z ≠ 0 ∨ z1 ≠ 0)) rfl (by omega) ((hSp.add (by omega) hQ2.1 hQ2.2.1 hQ2.2.2).iff (fun i _ _ => by rw [show (j * 5 + 0) * 7 + t = 35 * j + t by omega]; exact sPa_yes ⟨by omega, by omega, by omega, zc_eq1.mp (by omega)⟩))
          exact hl2 _ 0 R1 z rfl (by omega) hSp
        · refine x_goto (tgt := 83) d_D_spread_37 rfl ?_
          refine x_iinc d_D_spread_83 rfl [some (.ref ((σ 1).1)), some (.ref ((σ k).1)), some (vi (7 + x)), some (vi f), some (vi z), some (vi (j + 1)), none] rfl rfl (lr rfl) ?_
          refine x_goto (tgt := 6) d_D_spread_86 rfl ?_
          exact ih _ (by omega) (j + 1) R1 z rfl (by omega) (hSp.iff (fun i _ _ => sPa_row (by omega)))
  refine x_iconst d_D_spread_0 ?_
  refine x_istore d_D_spread_1 [some (.ref ((σ 1).1)), some (.ref ((σ k).1)), some (vi (7 + x)), some (vi f), some (vi 0), none, none] rfl rfl (lr rfl) ?_
  refine x_iconst d_D_spread_3 ?_
  refine x_istore d_D_spread_4 [some (.ref ((σ 1).1)), some (.ref ((σ k).1)), some (vi (7 + x)), some (vi f), some (vi 0), some (vi 0), none] rfl rfl (lr rfl) ?_
  exact hl _ 0 R 0 rfl (by omega) (Spr.zero.iff (fun i _ _ => sPa_0))
