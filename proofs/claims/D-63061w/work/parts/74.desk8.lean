/-! the desk: wrong, goesOn, parse (walks printed by gen/desk8.py) -/
set_option maxHeartbeats 4000000 in
set_option maxRecDepth 100000 in
theorem c_D_wrong {σ : xS} {R : xR} (hD : dSh σ) (G : xGr) (a : auT) (u υ : Int → Int) (m e : Int) (cap : Nat) (hUs : dUs σ R G u m υ e cap) (hc : dCo G a) (hLd : dLd G a u m R) (rw n : Int) (N : Nat) (hrw : (σ rw).2 = (32, N)) (hr16 : rw ≠ 16) (hN : n ≤ N ∧ N ≤ 100) (hn : 0 ≤ n ∧ n ≤ 19) (hwd : ∀ k, 0 ≤ k → k < n → 0 ≤ R rw k ∧ R rw k < 6) : Ct m_D_wrong 4 0 0 [.ref (σ 1).1, .ref (σ rw).1, vi n] σ R (Zm σ (fun z R1 => (∀ b, b ≠ 16 → R1 b = R b) ∧ pR G a (R rw) n z)) := by
  refine Ct.of [some (.ref ((σ 1).1)), some (.ref ((σ rw).1)), some (vi n), none, none, none, none] rfl (by decide +kernel) (lr rfl) (fun X => ?_)
  have hthis := thisD hD
  have hw := hc.1
  have ho := hc.2.1
  have h40 := ho.2.2.1
  obtain ⟨M0, z0, hz0⟩ := PR.all hw ho hc.2.2.1 hn hwd
  have hp0 : pR G a (R rw) n z0 := ⟨M0, hz0⟩
  have hl : ∀ (mw : Nat) (m0 : Nat) (S : xSt) (top : Int) (k : Int) (R1 : xR), m0 = mw → (top = (S.length : Int)) → (0 ≤ k ∧ k ≤ n) → (pPath a S) → (dStk R1 S) → (PR G a (R rw) n m0 S k z0) → (∀ b, b ≠ 16 → R1 b = R b) → V X m_D_wrong (4, 0, 0, Zm σ (fun z R1 => (∀ b, b ≠ 16 → R1 b = R b) ∧ pR G a (R rw) n z)) σ R1 0 0 12 [some (.ref ((σ 1).1)), some (.ref ((σ rw).1)), some (vi n), some (vi top), some (vi k), none, none] [] := by
    intro mw
    induction mw using Nat.strongRecOn with
    | _ mw ih =>
      intro m0 S top k R1 hm htop hk1 hpath hstk hPR hkp
      obtain ⟨m1, rfl⟩ : ∃ m1, m0 = m1 + 1 := by
        cases m0 with
        | zero => exact hPR.elim
        | succ m1 => exact ⟨m1, rfl⟩
      have hrg := hpath.rg ho
      have hlen := hPR.1
      have hla := la_rng hwd (k := k) (by omega)
      have hLd1 : dLd G a u m R1 := hLd.keep h40 (fun k a b => hkp _ (by omega))
      have hUs1 : dUs σ R1 G u m υ e cap := hUs.keep (hkp 3 (by decide)) (hkp e (by have := hUs.2.2.1; omega)) (fun j j0 j1 => ⟨hkp _ (by have := (hUs.2.2.2 j j0 j1).2.2.1; omega), hkp _ (by have := (hUs.2.2.2 j j0 j1).2.2.1; omega)⟩)
      have hA3 := hUs1.2.1
      have hv := (hLd1 (tp S) hrg.1 hrg.2).1 (la (R rw) n k) hla.1 (by omega)
      have hst := dStep hc hUs.1 hpath hwd (by omega) hPR hv
      generalize hvv : R1 (400 + tp S) (la (R rw) n k) = v at hv hst
      refine x_iload_n d_D_wrong_12 3 rfl rfl ?_
      refine x_iconst d_D_wrong_13 ?_
      refine x_iadd d_D_wrong_14 ?_
      refine x_sipush d_D_wrong_15 rfl ?_
      refine x_icmp_ge (tgt := 139) d_D_wrong_18 rfl (by omega) (by omega) (fun c18 => ?_) (fun c18 => ?_)
      · omega
      · refine x_aload_n d_D_wrong_21 0 rfl rfl ?_
        refine x_getc 1 14 15 15 fl_D_50 tk_17_14 (hD.1.at 0 rfl) rfl rfl d_D_wrong_22 ?_
        refine x_aload_n d_D_wrong_25 0 rfl rfl ?_
        refine x_getc 1 15 16 16 fl_D_53 tk_17_15 (hD.1.at 0 rfl) rfl rfl d_D_wrong_26 ?_
        refine x_iload_n d_D_wrong_29 3 rfl rfl ?_
        refine x_iald 16 (tp S) (hD.1.at 9 rfl) rfl ⟨by decide, rfl, by decide⟩ rfl (by omega) (by rw [htop]; exact hstk.top) d_D_wrong_30 ?_
        refine x_aald 15 (v := .ref ((σ (400 + (tp S))).1)) (hD.1.at 8 rfl) rfl ⟨by decide, rfl, by decide⟩ (by omega) (row43 (by omega)) d_D_wrong_31 ?_
        refine x_iload d_D_wrong_32 rfl ?_
        refine x_iload_n d_D_wrong_34 2 rfl rfl ?_
        refine x_icmp_ge (tgt := 45) d_D_wrong_35 rfl (by omega) (by omega) (fun c35 => ?_) (fun c35 => ?_)
        · have ela : la (R rw) n k = 6 := if_neg (by omega)
          refine x_bipush d_D_wrong_45 rfl ?_
          refine x_sald (400 + (tp S)) v (hD.2.1 ((tp S)) (by omega) (by omega)) rfl ⟨by decide, rfl, by decide⟩ rfl (by omega) (by rw [← hvv, ela]) d_D_wrong_47 ?_
          refine x_istore d_D_wrong_48 [some (.ref ((σ 1).1)), some (.ref ((σ rw).1)), some (vi n), some (vi top), some (vi k), some (vi v), none] rfl rfl (lr rfl) ?_
          have hv9 : -32768 ≤ v ∧ v < 32768 := by
            have hm9 := hUs.1.1
            rcases hst with ⟨q, -⟩ | ⟨q, -⟩ | ⟨q, -⟩ | ⟨j, q, q2, -⟩ <;> omega
          refine x_iload d_D_wrong_50 rfl ?_
          refine x_sipush d_D_wrong_52 rfl ?_
          refine x_icmp_ne (tgt := 60) d_D_wrong_55 rfl (by omega) (by omega) (fun c55 => ?_) (fun c55 => ?_)
          · refine x_iload d_D_wrong_60 rfl ?_
            refine x_if_ne (tgt := 68) d_D_wrong_62 rfl (by omega) (fun c62 => ?_) (fun c62 => ?_)
            · refine x_iload d_D_wrong_68 rfl ?_
              refine x_if_le (tgt := 79) d_D_wrong_70 rfl (by omega) (fun c70 => ?_) (fun c70 => ?_)
              · obtain ⟨j, j0, j1, j2, j3, j4, j5, j6, j7, j8⟩ : ∃ j, (1 ≤ j ∧ j < m) ∧ v = -1 - j ∧ (G.2.2.1 (u j)).toNat ≤ S.length ∧ pPath a (rd G a S (u j)) ∧ PR G a (R rw) n m1 (rd G a S (u j)) k z0 ∧ 0 ≤ a.2.2 (12 * tp (S.drop (G.2.2.1 (u j)).toNat) + (6 + G.2.1 (u j))) ∧ a.2.2 (12 * tp (S.drop (G.2.2.1 (u j)).toNat) + (6 + G.2.1 (u j))) < a.1 ∧ (0 ≤ tp (S.drop (G.2.2.1 (u j)).toNat) ∧ tp (S.drop (G.2.2.1 (u j)).toNat) < a.1) ∧ (0 ≤ G.2.1 (u j) ∧ G.2.1 (u j) ≤ 5) := by
                  rcases hst with ⟨q, -⟩ | ⟨q, -⟩ | ⟨q, -⟩ | q
                  · omega
                  · omega
                  · omega
                  · exact q
                have hrj := (hUs1.2.2.2 j (by omega) (by omega)).2.1
                have hlj0 := (hUs1.2.2.2 j (by omega) (by omega)).2.2.2
                have hln : ((G.2.2.1 (u j)).toNat : Int) = G.2.2.1 (u j) := by omega
                have hlen2 : (S.drop (G.2.2.1 (u j)).toNat).length + 1 ≤ 399 := j4.len
                rw [List.length_drop] at hlen2
                have hrd : R1 16 (top - G.2.2.1 (u j)) = tp (S.drop (G.2.2.1 (u j)).toNat) := by
                  have := hstk (G.2.2.1 (u j)).toNat j2
                  rw [show top - G.2.2.1 (u j) = (S.length : Int) - (((G.2.2.1 (u j)).toNat : Nat) : Int) by omega]; exact this
                refine x_aload_n d_D_wrong_79 0 rfl rfl ?_
                refine x_getc 1 1 3 3 fl_D_16 tk_17_1 (hD.1.at 0 rfl) rfl rfl d_D_wrong_80 ?_
                refine x_iconst d_D_wrong_83 ?_
                refine x_iload d_D_wrong_84 rfl ?_
                refine x_isub d_D_wrong_86 ?_
                refine V.teq j (by omega) ?_
                refine x_cva 3 (As := [vi j]) (c_AL_get 3 e m cap hA3 j (σ (υ j)).1 (by omega) (hUs1.2.2.2 j (by omega) (by omega)).1) cs_D_131 hA3.rc rfl rfl (lr rfl) d_D_wrong_87 (lr rfl) ⟨lr rfl, lr rfl⟩ ?_
                refine x_castR (υ j) (hrj.1) rfl d_D_wrong_90 ?_
                refine x_astore d_D_wrong_93 [some (.ref ((σ 1).1)), some (.ref ((σ rw).1)), some (vi n), some (vi top), some (vi k), some (vi v), some (.ref ((σ (υ j)).1))] rfl rfl (lr rfl) ?_
                refine x_iload_n d_D_wrong_95 3 rfl rfl ?_
                refine x_aload d_D_wrong_96 rfl ?_
                refine x_get3N (υ j) 1 ((υ j) + 1) fl_D_153 tk_18_1 hrj.1 rfl rfl d_D_wrong_98 ?_
                refine x_len ((υ j) + 1) hrj.2.1 rfl (by decide) d_D_wrong_101 ?_
                refine V.teq (G.2.2.1 (u j)) (hln) ?_
                refine x_isub d_D_wrong_102 ?_
                refine x_istore_n d_D_wrong_103 3 rfl [some (.ref ((σ 1).1)), some (.ref ((σ rw).1)), some (vi n), some (vi (top - (G.2.2.1 (u j)))), some (vi k), some (vi v), some (.ref ((σ (υ j)).1))] rfl rfl (lr rfl) ?_
                refine x_aload_n d_D_wrong_104 0 rfl rfl ?_
                refine x_getc 1 14 15 15 fl_D_50 tk_17_14 (hD.1.at 0 rfl) rfl rfl d_D_wrong_105 ?_
                refine x_aload_n d_D_wrong_108 0 rfl rfl ?_
                refine x_getc 1 15 16 16 fl_D_53 tk_17_15 (hD.1.at 0 rfl) rfl rfl d_D_wrong_109 ?_
                refine x_iload_n d_D_wrong_112 3 rfl rfl ?_
                refine x_iald 16 (tp (S.drop (G.2.2.1 (u j)).toNat)) (hD.1.at 9 rfl) rfl ⟨by decide, rfl, by decide⟩ rfl (by omega) hrd d_D_wrong_113 ?_
                refine x_aald 15 (v := .ref ((σ (400 + (tp (S.drop (G.2.2.1 (u j)).toNat)))).1)) (hD.1.at 8 rfl) rfl ⟨by decide, rfl, by decide⟩ (by omega) (row43 (by omega)) d_D_wrong_114 ?_
                refine x_aload d_D_wrong_115 rfl ?_
                refine x_getiN (υ j) 0 0 (7 + G.2.1 (u j)) fl_D_156 tk_18_0 hrj.1 rfl rfl hrj.2.2.2.1 d_D_wrong_117 ?_
                refine x_sald (400 + (tp (S.drop (G.2.2.1 (u j)).toNat))) (1 + a.2.2 (12 * tp (S.drop (G.2.2.1 (u j)).toNat) + (6 + G.2.1 (u j)))) (hD.2.1 ((tp (S.drop (G.2.2.1 (u j)).toNat))) (by omega) (by omega)) rfl ⟨by decide, rfl, by decide⟩ rfl (by omega) ((hLd1 _ j7.1 j7.2).2 _ (by omega) (by omega)) d_D_wrong_120 ?_
                refine x_istore d_D_wrong_121 [some (.ref ((σ 1).1)), some (.ref ((σ rw).1)), some (vi n), some (vi (top - (G.2.2.1 (u j)))), some (vi k), some (vi (1 + a.2.2 (12 * tp (S.drop (G.2.2.1 (u j)).toNat) + (6 + G.2.1 (u j))))), some (.ref ((σ (υ j)).1))] rfl rfl (lr rfl) ?_
                refine x_iinc d_D_wrong_123 rfl [some (.ref ((σ 1).1)), some (.ref ((σ rw).1)), some (vi n), some (vi ((top - (G.2.2.1 (u j))) + 1)), some (vi k), some (vi (1 + a.2.2 (12 * tp (S.drop (G.2.2.1 (u j)).toNat) + (6 + G.2.1 (u j))))), some (.ref ((σ (υ j)).1))] rfl rfl (lr rfl) ?_
                refine x_aload_n d_D_wrong_126 0 rfl rfl ?_
                refine x_getc 1 15 16 16 fl_D_53 tk_17_15 (hD.1.at 0 rfl) rfl rfl d_D_wrong_127 ?_
                refine x_iload_n d_D_wrong_130 3 rfl rfl ?_
                refine x_iload d_D_wrong_131 rfl ?_
                refine x_iconst d_D_wrong_133 ?_
                refine x_isub d_D_wrong_134 ?_
                refine x_iast 16 (hD.1.at 9 rfl) rfl ⟨by decide, rfl, by decide⟩ rfl (by omega) d_D_wrong_135 (fun Q1 hQ1 => ?_)
                refine x_goto (tgt := 12) d_D_wrong_136 rfl ?_
                refine V.forget 5 [some (.ref ((σ 1).1)), some (.ref ((σ rw).1)), some (vi n), some (vi ((top - (G.2.2.1 (u j))) + 1)), some (vi k), none, some (.ref ((σ (υ j)).1))] rfl ?_
                refine V.forget 6 [some (.ref ((σ 1).1)), some (.ref ((σ rw).1)), some (vi n), some (vi ((top - (G.2.2.1 (u j))) + 1)), some (vi k), none, none] rfl ?_
                exact ih m1 (by omega) m1 _ (top - G.2.2.1 (u j) + 1) k Q1 rfl (by show top - G.2.2.1 (u j) + 1 = (((S.drop (G.2.2.1 (u j)).toNat).length + 1 : Nat) : Int); rw [List.length_drop]; omega) (by omega) j3 ((hstk.dr j2).push (by rw [List.length_drop, hQ1, show ((S.length - (G.2.2.1 (u j)).toNat : Nat) : Int) + 1 = top - G.2.2.1 (u j) + 1 by omega]; congr 1; omega)) j4 (fun b c => by rw [← hkp b c]; funext i; exact xr_o hQ1 c)
              · refine x_iinc d_D_wrong_73 rfl [some (.ref ((σ 1).1)), some (.ref ((σ rw).1)), some (vi n), some (vi top), some (vi (k + 1)), some (vi v), none] rfl rfl (lr rfl) ?_
                refine x_goto (tgt := 123) d_D_wrong_76 rfl ?_
                refine x_iinc d_D_wrong_123 rfl [some (.ref ((σ 1).1)), some (.ref ((σ rw).1)), some (vi n), some (vi (top + 1)), some (vi (k + 1)), some (vi v), none] rfl rfl (lr rfl) ?_
                refine x_aload_n d_D_wrong_126 0 rfl rfl ?_
                refine x_getc 1 15 16 16 fl_D_53 tk_17_15 (hD.1.at 0 rfl) rfl rfl d_D_wrong_127 ?_
                refine x_iload_n d_D_wrong_130 3 rfl rfl ?_
                refine x_iload d_D_wrong_131 rfl ?_
                refine x_iconst d_D_wrong_133 ?_
                refine x_isub d_D_wrong_134 ?_
                refine x_iast 16 (hD.1.at 9 rfl) rfl ⟨by decide, rfl, by decide⟩ rfl (by omega) d_D_wrong_135 (fun Q2 hQ2 => ?_)
                refine x_goto (tgt := 12) d_D_wrong_136 rfl ?_
                refine V.forget 5 [some (.ref ((σ 1).1)), some (.ref ((σ rw).1)), some (vi n), some (vi (top + 1)), some (vi (k + 1)), none, none] rfl ?_
                obtain ⟨q1, q2, q3, q4⟩ : (0 < v ∧ v ≤ 40 ∧ k < n) ∧ v = 1 + a.2.2 (12 * tp S + la (R rw) n k) ∧ pPath a (px a S (la (R rw) n k) 1) ∧ PR G a (R rw) n m1 (px a S (la (R rw) n k) 1) (k + 1) z0 := by
                  rcases hst with ⟨q, -⟩ | ⟨q, -⟩ | q | ⟨j, q, q2, -⟩
                  · omega
                  · omega
                  · exact q
                  · omega
                exact ih m1 (by omega) m1 _ (top + 1) (k + 1) Q2 rfl (by show top + 1 = ((S.length + 1 : Nat) : Int); omega) (by omega) q3 (hstk.push (by rw [← htop, hQ2]; congr 1; omega)) q4 (fun b c => by rw [← hkp b c]; funext i; exact xr_o hQ2 c)
            · refine x_iload d_D_wrong_65 rfl ?_
              exact x_iret d_D_wrong_67 rfl (lr rfl) (lr rfl) (⟨_, rfl, rfl, hkp, by have : z0 = k := (by rcases hst with ⟨q, -⟩ | ⟨-, q⟩ | ⟨q, -⟩ | ⟨j, q, q2, -⟩; (omega); (exact q); (omega); (omega)); rw [← this]; exact hp0⟩)
          · refine x_iconst d_D_wrong_58 ?_
            exact x_iret d_D_wrong_59 rfl (lr rfl) (lr rfl) (⟨_, rfl, rfl, hkp, by have : z0 = -1 := (by rcases hst with ⟨-, q⟩ | ⟨q, -⟩ | ⟨q, -⟩ | ⟨j, q, q2, -⟩; (exact q); (omega); (omega); (omega)); rw [← this]; exact hp0⟩)
        · have g9 := hwd k (by omega) (by omega)
          have ela : la (R rw) n k = R rw k := if_pos (by omega)
          refine x_aload_n d_D_wrong_38 1 rfl rfl ?_
          refine x_iload d_D_wrong_39 rfl ?_
          refine x_iald rw (R rw k) hrw rfl ⟨by decide, rfl, by omega⟩ rfl (by omega) (by rw [hkp rw hr16]) d_D_wrong_41 ?_
          refine x_goto (tgt := 47) d_D_wrong_42 rfl ?_
          refine x_sald (400 + (tp S)) v (hD.2.1 ((tp S)) (by omega) (by omega)) rfl ⟨by decide, rfl, by decide⟩ rfl (by omega) (by rw [← hvv, ela]) d_D_wrong_47 ?_
          refine x_istore d_D_wrong_48 [some (.ref ((σ 1).1)), some (.ref ((σ rw).1)), some (vi n), some (vi top), some (vi k), some (vi v), none] rfl rfl (lr rfl) ?_
          have hv9 : -32768 ≤ v ∧ v < 32768 := by
            have hm9 := hUs.1.1
            rcases hst with ⟨q, -⟩ | ⟨q, -⟩ | ⟨q, -⟩ | ⟨j, q, q2, -⟩ <;> omega
          refine x_iload d_D_wrong_50 rfl ?_
          refine x_sipush d_D_wrong_52 rfl ?_
          refine x_icmp_ne (tgt := 60) d_D_wrong_55 rfl (by omega) (by omega) (fun c55 => ?_) (fun c55 => ?_)
          · refine x_iload d_D_wrong_60 rfl ?_
            refine x_if_ne (tgt := 68) d_D_wrong_62 rfl (by omega) (fun c62 => ?_) (fun c62 => ?_)
            · refine x_iload d_D_wrong_68 rfl ?_
              refine x_if_le (tgt := 79) d_D_wrong_70 rfl (by omega) (fun c70 => ?_) (fun c70 => ?_)
              · obtain ⟨j, j0, j1, j2, j3, j4, j5, j6, j7, j8⟩ : ∃ j, (1 ≤ j ∧ j < m) ∧ v = -1 - j ∧ (G.2.2.1 (u j)).toNat ≤ S.length ∧ pPath a (rd G a S (u j)) ∧ PR G a (R rw) n m1 (rd G a S (u j)) k z0 ∧ 0 ≤ a.2.2 (12 * tp (S.drop (G.2.2.1 (u j)).toNat) + (6 + G.2.1 (u j))) ∧ a.2.2 (12 * tp (S.drop (G.2.2.1 (u j)).toNat) + (6 + G.2.1 (u j))) < a.1 ∧ (0 ≤ tp (S.drop (G.2.2.1 (u j)).toNat) ∧ tp (S.drop (G.2.2.1 (u j)).toNat) < a.1) ∧ (0 ≤ G.2.1 (u j) ∧ G.2.1 (u j) ≤ 5) := by
                  rcases hst with ⟨q, -⟩ | ⟨q, -⟩ | ⟨q, -⟩ | q
                  · omega
                  · omega
                  · omega
                  · exact q
                have hrj := (hUs1.2.2.2 j (by omega) (by omega)).2.1
                have hlj0 := (hUs1.2.2.2 j (by omega) (by omega)).2.2.2
                have hln : ((G.2.2.1 (u j)).toNat : Int) = G.2.2.1 (u j) := by omega
                have hlen2 : (S.drop (G.2.2.1 (u j)).toNat).length + 1 ≤ 399 := j4.len
                rw [List.length_drop] at hlen2
                have hrd : R1 16 (top - G.2.2.1 (u j)) = tp (S.drop (G.2.2.1 (u j)).toNat) := by
                  have := hstk (G.2.2.1 (u j)).toNat j2
                  rw [show top - G.2.2.1 (u j) = (S.length : Int) - (((G.2.2.1 (u j)).toNat : Nat) : Int) by omega]; exact this
                refine x_aload_n d_D_wrong_79 0 rfl rfl ?_
                refine x_getc 1 1 3 3 fl_D_16 tk_17_1 (hD.1.at 0 rfl) rfl rfl d_D_wrong_80 ?_
                refine x_iconst d_D_wrong_83 ?_
                refine x_iload d_D_wrong_84 rfl ?_
                refine x_isub d_D_wrong_86 ?_
                refine V.teq j (by omega) ?_
                refine x_cva 3 (As := [vi j]) (c_AL_get 3 e m cap hA3 j (σ (υ j)).1 (by omega) (hUs1.2.2.2 j (by omega) (by omega)).1) cs_D_131 hA3.rc rfl rfl (lr rfl) d_D_wrong_87 (lr rfl) ⟨lr rfl, lr rfl⟩ ?_
                refine x_castR (υ j) (hrj.1) rfl d_D_wrong_90 ?_
                refine x_astore d_D_wrong_93 [some (.ref ((σ 1).1)), some (.ref ((σ rw).1)), some (vi n), some (vi top), some (vi k), some (vi v), some (.ref ((σ (υ j)).1))] rfl rfl (lr rfl) ?_
                refine x_iload_n d_D_wrong_95 3 rfl rfl ?_
                refine x_aload d_D_wrong_96 rfl ?_
                refine x_get3N (υ j) 1 ((υ j) + 1) fl_D_153 tk_18_1 hrj.1 rfl rfl d_D_wrong_98 ?_
                refine x_len ((υ j) + 1) hrj.2.1 rfl (by decide) d_D_wrong_101 ?_
                refine V.teq (G.2.2.1 (u j)) (hln) ?_
                refine x_isub d_D_wrong_102 ?_
                refine x_istore_n d_D_wrong_103 3 rfl [some (.ref ((σ 1).1)), some (.ref ((σ rw).1)), some (vi n), some (vi (top - (G.2.2.1 (u j)))), some (vi k), some (vi v), some (.ref ((σ (υ j)).1))] rfl rfl (lr rfl) ?_
                refine x_aload_n d_D_wrong_104 0 rfl rfl ?_
                refine x_getc 1 14 15 15 fl_D_50 tk_17_14 (hD.1.at 0 rfl) rfl rfl d_D_wrong_105 ?_
                refine x_aload_n d_D_wrong_108 0 rfl rfl ?_
                refine x_getc 1 15 16 16 fl_D_53 tk_17_15 (hD.1.at 0 rfl) rfl rfl d_D_wrong_109 ?_
                refine x_iload_n d_D_wrong_112 3 rfl rfl ?_
                refine x_iald 16 (tp (S.drop (G.2.2.1 (u j)).toNat)) (hD.1.at 9 rfl) rfl ⟨by decide, rfl, by decide⟩ rfl (by omega) hrd d_D_wrong_113 ?_
                refine x_aald 15 (v := .ref ((σ (400 + (tp (S.drop (G.2.2.1 (u j)).toNat)))).1)) (hD.1.at 8 rfl) rfl ⟨by decide, rfl, by decide⟩ (by omega) (row43 (by omega)) d_D_wrong_114 ?_
                refine x_aload d_D_wrong_115 rfl ?_
                refine x_getiN (υ j) 0 0 (7 + G.2.1 (u j)) fl_D_156 tk_18_0 hrj.1 rfl rfl hrj.2.2.2.1 d_D_wrong_117 ?_
                refine x_sald (400 + (tp (S.drop (G.2.2.1 (u j)).toNat))) (1 + a.2.2 (12 * tp (S.drop (G.2.2.1 (u j)).toNat) + (6 + G.2.1 (u j)))) (hD.2.1 ((tp (S.drop (G.2.2.1 (u j)).toNat))) (by omega) (by omega)) rfl ⟨by decide, rfl, by decide⟩ rfl (by omega) ((hLd1 _ j7.1 j7.2).2 _ (by omega) (by omega)) d_D_wrong_120 ?_
                refine x_istore d_D_wrong_121 [some (.ref ((σ 1).1)), some (.ref ((σ rw).1)), some (vi n), some (vi (top - (G.2.2.1 (u j)))), some (vi k), some (vi (1 + a.2.2 (12 * tp (S.drop (G.2.2.1 (u j)).toNat) + (6 + G.2.1 (u j))))), some (.ref ((σ (υ j)).1))] rfl rfl (lr rfl) ?_
                refine x_iinc d_D_wrong_123 rfl [some (.ref ((σ 1).1)), some (.ref ((σ rw).1)), some (vi n), some (vi ((top - (G.2.2.1 (u j))) + 1)), some (vi k), some (vi (1 + a.2.2 (12 * tp (S.drop (G.2.2.1 (u j)).toNat) + (6 + G.2.1 (u j))))), some (.ref ((σ (υ j)).1))] rfl rfl (lr rfl) ?_
                refine x_aload_n d_D_wrong_126 0 rfl rfl ?_
                refine x_getc 1 15 16 16 fl_D_53 tk_17_15 (hD.1.at 0 rfl) rfl rfl d_D_wrong_127 ?_
                refine x_iload_n d_D_wrong_130 3 rfl rfl ?_
                refine x_iload d_D_wrong_131 rfl ?_
                refine x_iconst d_D_wrong_133 ?_
                refine x_isub d_D_wrong_134 ?_
                refine x_iast 16 (hD.1.at 9 rfl) rfl ⟨by decide, rfl, by decide⟩ rfl (by omega) d_D_wrong_135 (fun Q3 hQ3 => ?_)
                refine x_goto (tgt := 12) d_D_wrong_136 rfl ?_
                refine V.forget 5 [some (.ref ((σ 1).1)), some (.ref ((σ rw).1)), some (vi n), some (vi ((top - (G.2.2.1 (u j))) + 1)), some (vi k), none, some (.ref ((σ (υ j)).1))] rfl ?_
                refine V.forget 6 [some (.ref ((σ 1).1)), some (.ref ((σ rw).1)), some (vi n), some (vi ((top - (G.2.2.1 (u j))) + 1)), some (vi k), none, none] rfl ?_
                exact ih m1 (by omega) m1 _ (top - G.2.2.1 (u j) + 1) k Q3 rfl (by show top - G.2.2.1 (u j) + 1 = (((S.drop (G.2.2.1 (u j)).toNat).length + 1 : Nat) : Int); rw [List.length_drop]; omega) (by omega) j3 ((hstk.dr j2).push (by rw [List.length_drop, hQ3, show ((S.length - (G.2.2.1 (u j)).toNat : Nat) : Int) + 1 = top - G.2.2.1 (u j) + 1 by omega]; congr 1; omega)) j4 (fun b c => by rw [← hkp b c]; funext i; exact xr_o hQ3 c)
              · refine x_iinc d_D_wrong_73 rfl [some (.ref ((σ 1).1)), some (.ref ((σ rw).1)), some (vi n), some (vi top), some (vi (k + 1)), some (vi v), none] rfl rfl (lr rfl) ?_
                refine x_goto (tgt := 123) d_D_wrong_76 rfl ?_
                refine x_iinc d_D_wrong_123 rfl [some (.ref ((σ 1).1)), some (.ref ((σ rw).1)), some (vi n), some (vi (top + 1)), some (vi (k + 1)), some (vi v), none] rfl rfl (lr rfl) ?_
                refine x_aload_n d_D_wrong_126 0 rfl rfl ?_
                refine x_getc 1 15 16 16 fl_D_53 tk_17_15 (hD.1.at 0 rfl) rfl rfl d_D_wrong_127 ?_
                refine x_iload_n d_D_wrong_130 3 rfl rfl ?_
                refine x_iload d_D_wrong_131 rfl ?_
                refine x_iconst d_D_wrong_133 ?_
                refine x_isub d_D_wrong_134 ?_
                refine x_iast 16 (hD.1.at 9 rfl) rfl ⟨by decide, rfl, by decide⟩ rfl (by omega) d_D_wrong_135 (fun Q4 hQ4 => ?_)
                refine x_goto (tgt := 12) d_D_wrong_136 rfl ?_
                refine V.forget 5 [some (.ref ((σ 1).1)), some (.ref ((σ rw).1)), some (vi n), some (vi (top + 1)), some (vi (k + 1)), none, none] rfl ?_
                obtain ⟨q1, q2, q3, q4⟩ : (0 < v ∧ v ≤ 40 ∧ k < n) ∧ v = 1 + a.2.2 (12 * tp S + la (R rw) n k) ∧ pPath a (px a S (la (R rw) n k) 1) ∧ PR G a (R rw) n m1 (px a S (la (R rw) n k) 1) (k + 1) z0 := by
                  rcases hst with ⟨q, -⟩ | ⟨q, -⟩ | q | ⟨j, q, q2, -⟩
                  · omega
                  · omega
                  · exact q
                  · omega
                exact ih m1 (by omega) m1 _ (top + 1) (k + 1) Q4 rfl (by show top + 1 = ((S.length + 1 : Nat) : Int); omega) (by omega) q3 (hstk.push (by rw [← htop, hQ4]; congr 1; omega)) q4 (fun b c => by rw [← hkp b c]; funext i; exact xr_o hQ4 c)
            · refine x_iload d_D_wrong_65 rfl ?_
              exact x_iret d_D_wrong_67 rfl (lr rfl) (lr rfl) (⟨_, rfl, rfl, hkp, by have : z0 = k := (by rcases hst with ⟨q, -⟩ | ⟨-, q⟩ | ⟨q, -⟩ | ⟨j, q, q2, -⟩; (omega); (exact q); (omega); (omega)); rw [← this]; exact hp0⟩)
          · refine x_iconst d_D_wrong_58 ?_
            exact x_iret d_D_wrong_59 rfl (lr rfl) (lr rfl) (⟨_, rfl, rfl, hkp, by have : z0 = -1 := (by rcases hst with ⟨-, q⟩ | ⟨q, -⟩ | ⟨q, -⟩ | ⟨j, q, q2, -⟩; (exact q); (omega); (omega); (omega)); rw [← this]; exact hp0⟩)
  refine x_iconst d_D_wrong_0 ?_
  refine x_istore_n d_D_wrong_1 3 rfl [some (.ref ((σ 1).1)), some (.ref ((σ rw).1)), some (vi n), some (vi 0), none, none, none] rfl rfl (lr rfl) ?_
  refine x_iconst d_D_wrong_2 ?_
  refine x_istore d_D_wrong_3 [some (.ref ((σ 1).1)), some (.ref ((σ rw).1)), some (vi n), some (vi 0), some (vi 0), none, none] rfl rfl (lr rfl) ?_
  refine x_aload_n d_D_wrong_5 0 rfl rfl ?_
  refine x_getc 1 15 16 16 fl_D_53 tk_17_15 (hD.1.at 0 rfl) rfl rfl d_D_wrong_6 ?_
  refine x_iconst d_D_wrong_9 ?_
  refine x_iconst d_D_wrong_10 ?_
  refine x_iast 16 (hD.1.at 9 rfl) rfl ⟨by decide, rfl, by decide⟩ rfl (by omega) d_D_wrong_11 (fun Q1 hQ1 => ?_)
  exact hl _ M0 [] 0 0 Q1 rfl rfl (by omega) trivial (dStk.nil hQ1) hz0 (fun b c => by funext i; exact xr_o hQ1 c)
set_option maxHeartbeats 4000000 in
set_option maxRecDepth 100000 in
theorem c_D_goesOn {σ : xS} {R : xR} (hD : dSh σ) (G : xGr) (a : auT) (u υ : Int → Int) (m e : Int) (cap : Nat) (hUs : dUs σ R G u m υ e cap) (hc : dCo G a) (hLd : dLd G a u m R) (n : Int) (hn : 0 ≤ n ∧ n ≤ 19) (hwd : ∀ k, 0 ≤ k → k < n → 0 ≤ R 17 k ∧ R 17 k < 6) : Ct m_D_goesOn 5 0 0 [.ref (σ 1).1, vi n] σ R (Zm σ (fun z R1 => (∀ b, b ≠ 16 → R1 b = R b) ∧ ∃ w, pR G a (R 17) n w ∧ z = zc (w < 0 ∨ n ≤ w))) := by
  refine Ct.of [some (.ref ((σ 1).1)), some (vi n), none] rfl (by decide +kernel) (lr rfl) (fun X => ?_)
  have hthis := thisD hD
  refine x_aload_n d_D_goesOn_0 0 rfl rfl ?_
  refine x_aload_n d_D_goesOn_1 0 rfl rfl ?_
  refine x_getc 1 16 17 17 fl_D_56 tk_17_16 (hD.1.at 0 rfl) rfl rfl d_D_goesOn_2 ?_
  refine x_iload_n d_D_goesOn_5 1 rfl rfl ?_
  refine x_cvm 1 (As := [.ref ((σ 17).1), vi n]) (c_D_wrong hD G a u υ m e cap hUs hc hLd 17 n 30 (hD.1.at 10 rfl) (by decide) (by omega) hn hwd) cs_D_238 hthis rfl rfl (lr rfl) d_D_goesOn_6 (lr rfl) ⟨lr rfl, lr rfl⟩ (fun z1 Q2 hQ2 => ?_)
  have hq9 := pR.rng (by omega) hwd hQ2.2
  refine x_istore_n d_D_goesOn_9 2 rfl [some (.ref ((σ 1).1)), some (vi n), some (vi z1)] rfl rfl (lr rfl) ?_
  refine x_iload_n d_D_goesOn_10 2 rfl rfl ?_
  refine x_if_lt (tgt := 19) d_D_goesOn_11 rfl (by omega) (fun c11 => ?_) (fun c11 => ?_)
  · refine x_iconst d_D_goesOn_19 ?_
    refine x_goto (tgt := 24) d_D_goesOn_20 rfl ?_
    exact x_zret d_D_goesOn_24 rfl (narz (by omega)) (lr rfl) (lr rfl) (⟨_, rfl, rfl, hQ2.1, _, hQ2.2, by rw [zc_t (by omega)]⟩)
  · refine x_iload_n d_D_goesOn_14 2 rfl rfl ?_
    refine x_iload_n d_D_goesOn_15 1 rfl rfl ?_
    refine x_icmp_lt (tgt := 23) d_D_goesOn_16 rfl (by omega) (by omega) (fun c16 => ?_) (fun c16 => ?_)
    · refine x_iconst d_D_goesOn_23 ?_
      exact x_zret d_D_goesOn_24 rfl (narz (by omega)) (lr rfl) (lr rfl) (⟨_, rfl, rfl, hQ2.1, _, hQ2.2, by rw [zc_f (by omega)]⟩)
    · refine x_iconst d_D_goesOn_19 ?_
      refine x_goto (tgt := 24) d_D_goesOn_20 rfl ?_
      exact x_zret d_D_goesOn_24 rfl (narz (by omega)) (lr rfl) (lr rfl) (⟨_, rfl, rfl, hQ2.1, _, hQ2.2, by rw [zc_t (by omega)]⟩)
