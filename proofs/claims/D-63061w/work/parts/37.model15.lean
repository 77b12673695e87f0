/-! the model: <init> (walk printed by gen/model15.py) -/
theorem ac_int : Cond.arrayClass (newarray.typeOf .int) ∈ xtb := xin 170 (by decide +kernel) (by decide +kernel)
theorem ac_boolean : Cond.arrayClass (newarray.typeOf .boolean) ∈ xtb := xin 171 (by decide +kernel) (by decide +kernel)
theorem ac_char : Cond.arrayClass (newarray.typeOf .char) ∈ xtb := xin 949 (by decide +kernel) (by decide +kernel)
theorem ac_short : Cond.arrayClass (newarray.typeOf .short) ∈ xtb := xin 172 (by decide +kernel) (by decide +kernel)
theorem ac_byte : Cond.arrayClass (newarray.typeOf .byte) ∈ xtb := xin 93 (by decide +kernel) (by decide +kernel)
theorem ac_long : Cond.arrayClass (newarray.typeOf .long) ∈ xtb := xin 717 (by decide +kernel) (by decide +kernel)
theorem oi_in : Cond.instanceMethod Lib.objectInit ∈ xtb := xin 33 (by decide +kernel) (by decide +kernel)
theorem oi_co : Cond.code Lib.objectInit ⟨#[0xb1]⟩ 1 none ∈ xtb := xin 34 (by decide +kernel) (by decide +kernel)
theorem oi_P : Cond.methodLink "RepairDeskModel" 1 Lib.objectInit ∈ xtb := xin 860 (by decide +kernel) (by decide +kernel)
theorem oi_D : Cond.methodLink "RepairDesk" 1 Lib.objectInit ∈ xtb := xin 32 (by decide +kernel) (by decide +kernel)
theorem oi_R : Cond.methodLink "RepairDesk$Rule" 1 Lib.objectInit ∈ xtb := xin 576 (by decide +kernel) (by decide +kernel)
theorem oi_S : Cond.methodLink "RepairDesk$State" 3 Lib.objectInit ∈ xtb := xin 712 (by decide +kernel) (by decide +kernel)
theorem na_32 : ¬ 32 < 32 ∧ xel 32 = newarray.typeOf .int ∧ (∀ j, xkd 32 j < 3 ∧ defaultValue (newarray.typeOf .int) = xdv (xkd 32 j)) := ⟨by decide, rfl, fun _ => ⟨lr rfl, rfl⟩⟩
theorem na_33 : ¬ 33 < 32 ∧ xel 33 = newarray.typeOf .boolean ∧ (∀ j, xkd 33 j < 3 ∧ defaultValue (newarray.typeOf .boolean) = xdv (xkd 33 j)) := ⟨by decide, rfl, fun _ => ⟨lr rfl, rfl⟩⟩
theorem na_34 : ¬ 34 < 32 ∧ xel 34 = newarray.typeOf .char ∧ (∀ j, xkd 34 j < 3 ∧ defaultValue (newarray.typeOf .char) = xdv (xkd 34 j)) := ⟨by decide, rfl, fun _ => ⟨lr rfl, rfl⟩⟩
theorem na_35 : ¬ 35 < 32 ∧ xel 35 = newarray.typeOf .byte ∧ (∀ j, xkd 35 j < 3 ∧ defaultValue (newarray.typeOf .byte) = xdv (xkd 35 j)) := ⟨by decide, rfl, fun _ => ⟨lr rfl, rfl⟩⟩
theorem na_36 : ¬ 36 < 32 ∧ xel 36 = newarray.typeOf .short ∧ (∀ j, xkd 36 j < 3 ∧ defaultValue (newarray.typeOf .short) = xdv (xkd 36 j)) := ⟨by decide, rfl, fun _ => ⟨lr rfl, rfl⟩⟩
theorem na_37 : ¬ 37 < 32 ∧ xel 37 = newarray.typeOf .long ∧ (∀ j, xkd 37 j < 3 ∧ defaultValue (newarray.typeOf .long) = xdv (xkd 37 j)) := ⟨by decide, rfl, fun _ => ⟨lr rfl, rfl⟩⟩
/-- an object o on its way: fields j with arrays in regions k (type, length) are set -/
def nwI (σ0 : xS) (R0 : xR) (o : Int) (σ : xS) (R : xR) (l : List (Nat × Int × Nat × Nat)) : Prop :=
  σ o = σ0 o ∧ (∀ e ∈ l, (σ e.2.1).2 = e.2.2 ∧ R o (e.1 : Int) = ((σ e.2.1).1 : Int) + 1 ∧ ∀ i, R e.2.1 i = 0) ∧ (∀ k, k ≠ o → (∀ e ∈ l, k ≠ e.2.1) → σ k = σ0 k ∧ ∀ i, R k i = R0 k i) ∧ (∀ i, (∀ e ∈ l, i ≠ (e.1 : Int)) → R o i = R0 o i)
theorem nwI.nil {σ : xS} {R : xR} {o : Int} : nwI σ R o σ R [] := ⟨rfl, fun e h => (by cases h), fun _ _ _ => ⟨rfl, fun _ => rfl⟩, fun _ _ => rfl⟩
theorem nwI.add {σ0 σ : xS} {R0 R Q : xR} {o k : Int} {j q t n : Nat} {l : List (Nat × Int × Nat × Nat)} (h : nwI σ0 R0 o σ R l) (hko : k ≠ o) (hk : ∀ e ∈ l, k ≠ e.2.1) (hj : ∀ e ∈ l, j ≠ e.1) (hlo : ∀ e ∈ l, e.2.1 ≠ o) (hQ : Q = xup (xru R k (fun _ => 0)) o (j : Int) ((q : Int) + 1)) : nwI σ0 R0 o (xsu σ k (q, t, n)) Q ((j, k, t, n) :: l) := by
  obtain ⟨h1, h2, h3, h4⟩ := h
  have hko' : o ≠ k := fun e => hko e.symm
  refine ⟨by rw [xsu_ne _ _ hko']; exact h1, fun e he => ?_, fun k2 a b => ?_, fun i a => ?_⟩
  · rcases List.mem_cons.mp he with e1 | e1
    · subst e1
      refine ⟨by rw [xsu_self], by rw [xr_s hQ, xsu_self], fun i => ?_⟩
      rw [xr_o hQ hko, xru_self]
    · obtain ⟨g1, g2, g3⟩ := h2 e e1
      have hne : e.2.1 ≠ k := fun q => hk e e1 q.symm
      refine ⟨by rw [xsu_ne _ _ hne]; exact g1, ?_, fun i => ?_⟩
      · rw [xr_d hQ (fun q => hj e e1 (by omega)), xru_ne _ _ hko', xsu_ne _ _ hne]; exact g2
      · rw [xr_o hQ (hlo e e1), xru_ne _ _ hne]; exact g3 i
  · have b1 : k2 ≠ k := b _ List.mem_cons_self
    obtain ⟨g1, g2⟩ := h3 k2 a (fun e he => b e (List.mem_cons_of_mem _ he))
    refine ⟨by rw [xsu_ne _ _ b1]; exact g1, fun i => ?_⟩
    rw [xr_o hQ a, xru_ne _ _ b1]; exact g2 i
  · have a1 : i ≠ (j : Int) := a _ List.mem_cons_self
    rw [xr_d hQ a1, xru_ne _ _ hko']
    exact h4 i (fun e he => a e (List.mem_cons_of_mem _ he))
def mNl : List (Nat × Int × Nat × Nat) := [(26, 57, 32, 8), (25, 56, 32, 40), (24, 55, 32, 280), (21, 52, 32, 6), (20, 51, 32, 6), (19, 50, 32, 400), (18, 49, 32, 24), (17, 48, 32, 16), (14, 45, 32, 492), (13, 44, 32, 2310), (10, 41, 32, 6), (9, 40, 33, 6), (8, 39, 33, 6), (7, 38, 33, 11), (6, 37, 32, 44), (5, 36, 32, 11), (4, 35, 32, 11), (1, 32, 34, 10)]
/-- what <init> leaves: the model, empty -/
def mNew (σ : xS) (R : xR) : xZ := fun o σ' R' => o = .returned none ∧ xsh σ' mshape ∧ (σ' 30).1 = (σ 30).1 ∧ (∀ k, k ≠ 30 → (∀ e ∈ mNl, k ≠ e.2.1) → σ' k = σ k ∧ ∀ i, R' k i = R k i) ∧ (∀ e ∈ mNl, e.2.1 ≠ 51 → e.2.1 ≠ 52 → ∀ i, R' e.2.1 i = 0) ∧ (∀ i, 0 ≤ i → i < 6 → R' 51 i = 1 ∧ R' 52 i = 1) ∧ ∀ i, (∀ e ∈ mNl, i ≠ (e.1 : Int)) → R' 30 i = R 30 i
set_option maxHeartbeats 4000000 in
set_option maxRecDepth 100000 in
theorem c_P_init {σ : xS} {R : xR} (h30 : (σ 30).2 = (7, 0)) (hfr : ∀ e ∈ mNl, (σ e.2.1).2.1 = 0) : Ct m_P_init 1 18 3687 [.ref (σ 30).1] σ R (mNew σ R) := by
  refine Ct.of [some (.ref ((σ 30).1)), none] rfl (by decide +kernel) (lr rfl) (fun X => ?_)
  refine x_aload_n d_P_init_0 0 rfl rfl ?_
  refine x_objInit oi_P oi_in oi_co (lr rfl) d_P_init_1 (lr rfl) ?_
  have i0 : nwI σ R 30 σ R [] := nwI.nil
  refine x_aload_n d_P_init_4 0 rfl rfl ?_
  refine x_bipush d_P_init_5 rfl ?_
  refine x_newa 32 34 (by decide) (hfr (1, 32, 34, 10) (by decide)) na_34 ac_char rfl (lr rfl) d_P_init_7 ⟨lr rfl, lr rfl⟩ (fun q0 => ?_)
  refine x_putFr 30 1 1 ((q0 : Int) + 1) ff_P_7 rfl tk_7_1 (by rw [xsu_ne _ _ (by decide), i0.1]; exact h30) (by rw [xsu_ne _ _ (by decide), i0.1]) rfl rfl ⟨rfl, rfl⟩ d_P_init_9 (fun Q0 hQ0 => ?_)
  have i1 := i0.add (t := 34) (n := 10) (j := 1) (by decide) (by decide) (by decide) (by decide) hQ0
  clear hQ0
  generalize xsu σ 32 (q0, 34, 10) = σ1 at i1 ⊢
  refine x_aload_n d_P_init_12 0 rfl rfl ?_
  refine x_bipush d_P_init_13 rfl ?_
  refine x_newa 35 32 (by decide) (by rw [(i1.2.2.1 35 (by decide) (by decide)).1]; exact hfr (4, 35, 32, 11) (by decide)) na_32 ac_int rfl (lr rfl) d_P_init_15 ⟨lr rfl, lr rfl⟩ (fun q1 => ?_)
  refine x_putFr 30 4 4 ((q1 : Int) + 1) ff_P_13 rfl tk_7_4 (by rw [xsu_ne _ _ (by decide), i1.1]; exact h30) (by rw [xsu_ne _ _ (by decide), i1.1]) rfl rfl ⟨rfl, rfl⟩ d_P_init_17 (fun Q1 hQ1 => ?_)
  have i2 := i1.add (t := 32) (n := 11) (j := 4) (by decide) (by decide) (by decide) (by decide) hQ1
  clear hQ1
  generalize xsu σ1 35 (q1, 32, 11) = σ2 at i2 ⊢
  clear i1
  refine x_aload_n d_P_init_20 0 rfl rfl ?_
  refine x_bipush d_P_init_21 rfl ?_
  refine x_newa 36 32 (by decide) (by rw [(i2.2.2.1 36 (by decide) (by decide)).1]; exact hfr (5, 36, 32, 11) (by decide)) na_32 ac_int rfl (lr rfl) d_P_init_23 ⟨lr rfl, lr rfl⟩ (fun q2 => ?_)
  refine x_putFr 30 5 5 ((q2 : Int) + 1) ff_P_17 rfl tk_7_5 (by rw [xsu_ne _ _ (by decide), i2.1]; exact h30) (by rw [xsu_ne _ _ (by decide), i2.1]) rfl rfl ⟨rfl, rfl⟩ d_P_init_25 (fun Q2 hQ2 => ?_)
  have i3 := i2.add (t := 32) (n := 11) (j := 5) (by decide) (by decide) (by decide) (by decide) hQ2
  clear hQ2
  generalize xsu σ2 36 (q2, 32, 11) = σ3 at i3 ⊢
  clear i2
  refine x_aload_n d_P_init_28 0 rfl rfl ?_
  refine x_bipush d_P_init_29 rfl ?_
  refine x_newa 37 32 (by decide) (by rw [(i3.2.2.1 37 (by decide) (by decide)).1]; exact hfr (6, 37, 32, 44) (by decide)) na_32 ac_int rfl (lr rfl) d_P_init_31 ⟨lr rfl, lr rfl⟩ (fun q3 => ?_)
  refine x_putFr 30 6 6 ((q3 : Int) + 1) ff_P_20 rfl tk_7_6 (by rw [xsu_ne _ _ (by decide), i3.1]; exact h30) (by rw [xsu_ne _ _ (by decide), i3.1]) rfl rfl ⟨rfl, rfl⟩ d_P_init_33 (fun Q3 hQ3 => ?_)
  have i4 := i3.add (t := 32) (n := 44) (j := 6) (by decide) (by decide) (by decide) (by decide) hQ3
  clear hQ3
  generalize xsu σ3 37 (q3, 32, 44) = σ4 at i4 ⊢
  clear i3
  refine x_aload_n d_P_init_36 0 rfl rfl ?_
  refine x_bipush d_P_init_37 rfl ?_
  refine x_newa 38 33 (by decide) (by rw [(i4.2.2.1 38 (by decide) (by decide)).1]; exact hfr (7, 38, 33, 11) (by decide)) na_33 ac_boolean rfl (lr rfl) d_P_init_39 ⟨lr rfl, lr rfl⟩ (fun q4 => ?_)
  refine x_putFr 30 7 7 ((q4 : Int) + 1) ff_P_23 rfl tk_7_7 (by rw [xsu_ne _ _ (by decide), i4.1]; exact h30) (by rw [xsu_ne _ _ (by decide), i4.1]) rfl rfl ⟨rfl, rfl⟩ d_P_init_41 (fun Q4 hQ4 => ?_)
  have i5 := i4.add (t := 33) (n := 11) (j := 7) (by decide) (by decide) (by decide) (by decide) hQ4
  clear hQ4
  generalize xsu σ4 38 (q4, 33, 11) = σ5 at i5 ⊢
  clear i4
  refine x_aload_n d_P_init_44 0 rfl rfl ?_
  refine x_bipush d_P_init_45 rfl ?_
  refine x_newa 39 33 (by decide) (by rw [(i5.2.2.1 39 (by decide) (by decide)).1]; exact hfr (8, 39, 33, 6) (by decide)) na_33 ac_boolean rfl (lr rfl) d_P_init_47 ⟨lr rfl, lr rfl⟩ (fun q5 => ?_)
  refine x_putFr 30 8 8 ((q5 : Int) + 1) ff_P_27 rfl tk_7_8 (by rw [xsu_ne _ _ (by decide), i5.1]; exact h30) (by rw [xsu_ne _ _ (by decide), i5.1]) rfl rfl ⟨rfl, rfl⟩ d_P_init_49 (fun Q5 hQ5 => ?_)
  have i6 := i5.add (t := 33) (n := 6) (j := 8) (by decide) (by decide) (by decide) (by decide) hQ5
  clear hQ5
  generalize xsu σ5 39 (q5, 33, 6) = σ6 at i6 ⊢
  clear i5
  refine x_aload_n d_P_init_52 0 rfl rfl ?_
  refine x_bipush d_P_init_53 rfl ?_
  refine x_newa 40 33 (by decide) (by rw [(i6.2.2.1 40 (by decide) (by decide)).1]; exact hfr (9, 40, 33, 6) (by decide)) na_33 ac_boolean rfl (lr rfl) d_P_init_55 ⟨lr rfl, lr rfl⟩ (fun q6 => ?_)
  refine x_putFr 30 9 9 ((q6 : Int) + 1) ff_P_30 rfl tk_7_9 (by rw [xsu_ne _ _ (by decide), i6.1]; exact h30) (by rw [xsu_ne _ _ (by decide), i6.1]) rfl rfl ⟨rfl, rfl⟩ d_P_init_57 (fun Q6 hQ6 => ?_)
  have i7 := i6.add (t := 33) (n := 6) (j := 9) (by decide) (by decide) (by decide) (by decide) hQ6
  clear hQ6
  generalize xsu σ6 40 (q6, 33, 6) = σ7 at i7 ⊢
  clear i6
  refine x_aload_n d_P_init_60 0 rfl rfl ?_
  refine x_bipush d_P_init_61 rfl ?_
  refine x_newa 41 32 (by decide) (by rw [(i7.2.2.1 41 (by decide) (by decide)).1]; exact hfr (10, 41, 32, 6) (by decide)) na_32 ac_int rfl (lr rfl) d_P_init_63 ⟨lr rfl, lr rfl⟩ (fun q7 => ?_)
  refine x_putFr 30 10 10 ((q7 : Int) + 1) ff_P_33 rfl tk_7_10 (by rw [xsu_ne _ _ (by decide), i7.1]; exact h30) (by rw [xsu_ne _ _ (by decide), i7.1]) rfl rfl ⟨rfl, rfl⟩ d_P_init_65 (fun Q7 hQ7 => ?_)
  have i8 := i7.add (t := 32) (n := 6) (j := 10) (by decide) (by decide) (by decide) (by decide) hQ7
  clear hQ7
  generalize xsu σ7 41 (q7, 32, 6) = σ8 at i8 ⊢
  clear i7
  refine x_aload_n d_P_init_68 0 rfl rfl ?_
  refine x_sipush d_P_init_69 rfl ?_
  refine x_newa 44 32 (by decide) (by rw [(i8.2.2.1 44 (by decide) (by decide)).1]; exact hfr (13, 44, 32, 2310) (by decide)) na_32 ac_int rfl (lr rfl) d_P_init_72 ⟨lr rfl, lr rfl⟩ (fun q8 => ?_)
  refine x_putFr 30 13 13 ((q8 : Int) + 1) ff_P_36 rfl tk_7_13 (by rw [xsu_ne _ _ (by decide), i8.1]; exact h30) (by rw [xsu_ne _ _ (by decide), i8.1]) rfl rfl ⟨rfl, rfl⟩ d_P_init_74 (fun Q8 hQ8 => ?_)
  have i9 := i8.add (t := 32) (n := 2310) (j := 13) (by decide) (by decide) (by decide) (by decide) hQ8
  clear hQ8
  generalize xsu σ8 44 (q8, 32, 2310) = σ9 at i9 ⊢
  clear i8
  refine x_aload_n d_P_init_77 0 rfl rfl ?_
  refine x_sipush d_P_init_78 rfl ?_
  refine x_newa 45 32 (by decide) (by rw [(i9.2.2.1 45 (by decide) (by decide)).1]; exact hfr (14, 45, 32, 492) (by decide)) na_32 ac_int rfl (lr rfl) d_P_init_81 ⟨lr rfl, lr rfl⟩ (fun q9 => ?_)
  refine x_putFr 30 14 14 ((q9 : Int) + 1) ff_P_39 rfl tk_7_14 (by rw [xsu_ne _ _ (by decide), i9.1]; exact h30) (by rw [xsu_ne _ _ (by decide), i9.1]) rfl rfl ⟨rfl, rfl⟩ d_P_init_83 (fun Q9 hQ9 => ?_)
  have i10 := i9.add (t := 32) (n := 492) (j := 14) (by decide) (by decide) (by decide) (by decide) hQ9
  clear hQ9
  generalize xsu σ9 45 (q9, 32, 492) = σ10 at i10 ⊢
  clear i9
  refine x_aload_n d_P_init_86 0 rfl rfl ?_
  refine x_bipush d_P_init_87 rfl ?_
  refine x_newa 48 32 (by decide) (by rw [(i10.2.2.1 48 (by decide) (by decide)).1]; exact hfr (17, 48, 32, 16) (by decide)) na_32 ac_int rfl (lr rfl) d_P_init_89 ⟨lr rfl, lr rfl⟩ (fun q10 => ?_)
  refine x_putFr 30 17 17 ((q10 : Int) + 1) ff_P_42 rfl tk_7_17 (by rw [xsu_ne _ _ (by decide), i10.1]; exact h30) (by rw [xsu_ne _ _ (by decide), i10.1]) rfl rfl ⟨rfl, rfl⟩ d_P_init_91 (fun Q10 hQ10 => ?_)
  have i11 := i10.add (t := 32) (n := 16) (j := 17) (by decide) (by decide) (by decide) (by decide) hQ10
  clear hQ10
  generalize xsu σ10 48 (q10, 32, 16) = σ11 at i11 ⊢
  clear i10
  refine x_aload_n d_P_init_94 0 rfl rfl ?_
  refine x_bipush d_P_init_95 rfl ?_
  refine x_newa 49 32 (by decide) (by rw [(i11.2.2.1 49 (by decide) (by decide)).1]; exact hfr (18, 49, 32, 24) (by decide)) na_32 ac_int rfl (lr rfl) d_P_init_97 ⟨lr rfl, lr rfl⟩ (fun q11 => ?_)
  refine x_putFr 30 18 18 ((q11 : Int) + 1) ff_P_45 rfl tk_7_18 (by rw [xsu_ne _ _ (by decide), i11.1]; exact h30) (by rw [xsu_ne _ _ (by decide), i11.1]) rfl rfl ⟨rfl, rfl⟩ d_P_init_99 (fun Q11 hQ11 => ?_)
  have i12 := i11.add (t := 32) (n := 24) (j := 18) (by decide) (by decide) (by decide) (by decide) hQ11
  clear hQ11
  generalize xsu σ11 49 (q11, 32, 24) = σ12 at i12 ⊢
  clear i11
  refine x_aload_n d_P_init_102 0 rfl rfl ?_
  refine x_sipush d_P_init_103 rfl ?_
  refine x_newa 50 32 (by decide) (by rw [(i12.2.2.1 50 (by decide) (by decide)).1]; exact hfr (19, 50, 32, 400) (by decide)) na_32 ac_int rfl (lr rfl) d_P_init_106 ⟨lr rfl, lr rfl⟩ (fun q12 => ?_)
  refine x_putFr 30 19 19 ((q12 : Int) + 1) ff_P_48 rfl tk_7_19 (by rw [xsu_ne _ _ (by decide), i12.1]; exact h30) (by rw [xsu_ne _ _ (by decide), i12.1]) rfl rfl ⟨rfl, rfl⟩ d_P_init_108 (fun Q12 hQ12 => ?_)
  have i13 := i12.add (t := 32) (n := 400) (j := 19) (by decide) (by decide) (by decide) (by decide) hQ12
  clear hQ12
  generalize xsu σ12 50 (q12, 32, 400) = σ13 at i13 ⊢
  clear i12
  refine x_aload_n d_P_init_111 0 rfl rfl ?_
  refine x_bipush d_P_init_112 rfl ?_
  refine x_newa 51 32 (by decide) (by rw [(i13.2.2.1 51 (by decide) (by decide)).1]; exact hfr (20, 51, 32, 6) (by decide)) na_32 ac_int rfl (lr rfl) d_P_init_114 ⟨lr rfl, lr rfl⟩ (fun q13 => ?_)
  refine x_putFr 30 20 20 ((q13 : Int) + 1) ff_P_51 rfl tk_7_20 (by rw [xsu_ne _ _ (by decide), i13.1]; exact h30) (by rw [xsu_ne _ _ (by decide), i13.1]) rfl rfl ⟨rfl, rfl⟩ d_P_init_116 (fun Q13 hQ13 => ?_)
  have i14 := i13.add (t := 32) (n := 6) (j := 20) (by decide) (by decide) (by decide) (by decide) hQ13
  clear hQ13
  generalize xsu σ13 51 (q13, 32, 6) = σ14 at i14 ⊢
  clear i13
  refine x_aload_n d_P_init_119 0 rfl rfl ?_
  refine x_bipush d_P_init_120 rfl ?_
  refine x_newa 52 32 (by decide) (by rw [(i14.2.2.1 52 (by decide) (by decide)).1]; exact hfr (21, 52, 32, 6) (by decide)) na_32 ac_int rfl (lr rfl) d_P_init_122 ⟨lr rfl, lr rfl⟩ (fun q14 => ?_)
  refine x_putFr 30 21 21 ((q14 : Int) + 1) ff_P_54 rfl tk_7_21 (by rw [xsu_ne _ _ (by decide), i14.1]; exact h30) (by rw [xsu_ne _ _ (by decide), i14.1]) rfl rfl ⟨rfl, rfl⟩ d_P_init_124 (fun Q14 hQ14 => ?_)
  have i15 := i14.add (t := 32) (n := 6) (j := 21) (by decide) (by decide) (by decide) (by decide) hQ14
  clear hQ14
  generalize xsu σ14 52 (q14, 32, 6) = σ15 at i15 ⊢
  clear i14
  refine x_aload_n d_P_init_127 0 rfl rfl ?_
  refine x_sipush d_P_init_128 rfl ?_
  refine x_newa 55 32 (by decide) (by rw [(i15.2.2.1 55 (by decide) (by decide)).1]; exact hfr (24, 55, 32, 280) (by decide)) na_32 ac_int rfl (lr rfl) d_P_init_131 ⟨lr rfl, lr rfl⟩ (fun q15 => ?_)
  refine x_putFr 30 24 24 ((q15 : Int) + 1) ff_P_57 rfl tk_7_24 (by rw [xsu_ne _ _ (by decide), i15.1]; exact h30) (by rw [xsu_ne _ _ (by decide), i15.1]) rfl rfl ⟨rfl, rfl⟩ d_P_init_133 (fun Q15 hQ15 => ?_)
  have i16 := i15.add (t := 32) (n := 280) (j := 24) (by decide) (by decide) (by decide) (by decide) hQ15
  clear hQ15
  generalize xsu σ15 55 (q15, 32, 280) = σ16 at i16 ⊢
  clear i15
  refine x_aload_n d_P_init_136 0 rfl rfl ?_
  refine x_bipush d_P_init_137 rfl ?_
  refine x_newa 56 32 (by decide) (by rw [(i16.2.2.1 56 (by decide) (by decide)).1]; exact hfr (25, 56, 32, 40) (by decide)) na_32 ac_int rfl (lr rfl) d_P_init_139 ⟨lr rfl, lr rfl⟩ (fun q16 => ?_)
  refine x_putFr 30 25 25 ((q16 : Int) + 1) ff_P_60 rfl tk_7_25 (by rw [xsu_ne _ _ (by decide), i16.1]; exact h30) (by rw [xsu_ne _ _ (by decide), i16.1]) rfl rfl ⟨rfl, rfl⟩ d_P_init_141 (fun Q16 hQ16 => ?_)
  have i17 := i16.add (t := 32) (n := 40) (j := 25) (by decide) (by decide) (by decide) (by decide) hQ16
  clear hQ16
  generalize xsu σ16 56 (q16, 32, 40) = σ17 at i17 ⊢
  clear i16
  refine x_aload_n d_P_init_144 0 rfl rfl ?_
  refine x_bipush d_P_init_145 rfl ?_
  refine x_newa 57 32 (by decide) (by rw [(i17.2.2.1 57 (by decide) (by decide)).1]; exact hfr (26, 57, 32, 8) (by decide)) na_32 ac_int rfl (lr rfl) d_P_init_147 ⟨lr rfl, lr rfl⟩ (fun q17 => ?_)
  refine x_putFr 30 26 26 ((q17 : Int) + 1) ff_P_63 rfl tk_7_26 (by rw [xsu_ne _ _ (by decide), i17.1]; exact h30) (by rw [xsu_ne _ _ (by decide), i17.1]) rfl rfl ⟨rfl, rfl⟩ d_P_init_149 (fun Q17 hQ17 => ?_)
  have i18 := i17.add (t := 32) (n := 8) (j := 26) (by decide) (by decide) (by decide) (by decide) hQ17
  clear hQ17
  generalize xsu σ17 57 (q17, 32, 8) = σ18 at i18 ⊢
  clear i17
  have hfin : nwI σ R 30 σ18 Q17 mNl := i18
  clear i18
  have hs30 : σ18 30 = ((σ 30).1, 7, 0) := by rw [hfin.1]; exact Prod.ext rfl h30
  have hkd : ∀ j, j < 29 → (xkd 7 j = 0 ∧ xkd 23 j = 0) ∨ (xkd 7 j = 2 ∧ ∃ e ∈ mNl, e.1 = j ∧ xkd 23 j = e.2.1.toNat + 4 ∧ 0 ≤ e.2.1 ∧ e.2.2.1 ≠ 0) := by decide
  refine V.made 30 23 (C := R_Model) (T := F_Model) (N := 29) (by decide) hs30 (by decide) (by decide) rfl (fun j hj => ?_) (fun j hj c hc => ?_) ?_
  · rcases hkd j hj with ⟨a, b⟩ | ⟨a, e, he, e1, e2, e3, e4⟩
    · rw [a, b]
    · rw [a, e2]
      obtain ⟨g1, g2, g3⟩ := hfin.2.1 e he
      rw [← e1, g2]
      show _ = Value.ref (σ18 ((e.2.1.toNat : Nat) : Int)).1
      rw [show ((e.2.1.toNat : Nat) : Int) = e.2.1 by omega]
      rfl
  · rcases hkd j hj with ⟨a, b⟩ | ⟨a, e, he, e1, e2, e3, e4⟩
    · rw [b] at hc; cases hc
    · rw [e2] at hc
      have hc2 : ((e.2.1.toNat : Nat) : Int) = c := Option.some.inj hc
      rw [← hc2, show ((e.2.1.toNat : Nat) : Int) = e.2.1 by omega, (hfin.2.1 e he).1]
      exact e4
  have hM : xsh (xsu σ18 30 ((σ 30).1, 23, 0)) mshape := by
    intro i q hq
    have hq2 : q = (30, 23, 0) ∨ ∃ e ∈ mNl, e.2 = q ∧ e.2.1 ≠ 30 := by
      have hall : ∀ q ∈ mshape, q = (30, 23, 0) ∨ ∃ e ∈ mNl, e.2 = q ∧ e.2.1 ≠ 30 := by decide
      exact hall q (List.mem_of_getElem? hq)
    rcases hq2 with rfl | ⟨e, he, rfl, e3⟩
    · rw [xsu_self]
    · rw [xsu_ne _ _ e3]; exact (hfin.2.1 e he).1
  have hoth : ∀ k, k ≠ 30 → (∀ e ∈ mNl, k ≠ e.2.1) → xsu σ18 30 ((σ 30).1, 23, 0) k = σ k := fun k a b => by rw [xsu_ne _ _ a]; exact (hfin.2.2.1 k a b).1
  have h301 : (xsu σ18 30 ((σ 30).1, 23, 0) 30).1 = (σ 30).1 := by rw [xsu_self]
  have hz : ∀ e ∈ mNl, ∀ i, Q17 e.2.1 i = 0 := fun e he => (hfin.2.1 e he).2.2
  have hro : ∀ k, k ≠ 30 → (∀ e ∈ mNl, k ≠ e.2.1) → ∀ i, Q17 k i = R k i := fun k a b => (hfin.2.2.1 k a b).2
  have hr30 : ∀ i, (∀ e ∈ mNl, i ≠ (e.1 : Int)) → Q17 30 i = R 30 i := hfin.2.2.2
  clear hfin hs30
  generalize xsu σ18 30 ((σ 30).1, 23, 0) = τ at hM hoth h301 ⊢
  generalize Q17 = R9 at hz hro hr30 ⊢
  rw [← h301]
  have hl : ∀ (m : Nat) (k : Int) (R1 : xR), (6 - k).toNat = m → (0 ≤ k ∧ k ≤ 6) → (∀ p, p ≠ 51 → p ≠ 52 → ∀ i, R1 p i = R9 p i) → (∀ i, 0 ≤ i → i < k → R1 51 i = 1 ∧ R1 52 i = 1) → V X m_P_init (1, 18, 3687, mNew σ R) τ R1 18 3687 154 [some (.ref ((τ 30).1)), some (vi k)] [] := by
    intro m
    induction m using Nat.strongRecOn with
    | _ m ih =>
      intro k R1 hm hk1 hkp h1s
      refine x_iload_n d_P_init_154 1 rfl rfl ?_
      refine x_bipush d_P_init_155 rfl ?_
      refine x_icmp_ge (tgt := 180) d_P_init_157 rfl (by omega) (by omega) (fun c157 => ?_) (fun c157 => ?_)
      · exact x_vret d_P_init_180 rfl (lr rfl) (lr rfl) (⟨rfl, hM, h301, fun p a b => ⟨hoth p a b, fun i => (hkp p (fun e => b (20, 51, 32, 6) (by decide) e) (fun e => b (21, 52, 32, 6) (by decide) e) i).trans (hro p a b i)⟩, fun e he a b i => (hkp e.2.1 a b i).trans (hz e he i), fun i a b => h1s i a (by omega), fun i a => (hkp 30 (by decide) (by decide) i).trans (hr30 i a)⟩)
      · refine x_aload_n d_P_init_160 0 rfl rfl ?_
        refine x_getc 30 20 51 51 fl_P_51 tk_23_20 (hM.at 0 rfl) rfl rfl d_P_init_161 ?_
        refine x_iload_n d_P_init_164 1 rfl rfl ?_
        refine x_iconst d_P_init_165 ?_
        refine x_iast 51 (hM.at 14 rfl) rfl ⟨by decide, rfl, by decide⟩ rfl (by omega) d_P_init_166 (fun Q1 hQ1 => ?_)
        refine x_aload_n d_P_init_167 0 rfl rfl ?_
        refine x_getc 30 21 52 52 fl_P_54 tk_23_21 (hM.at 0 rfl) rfl rfl d_P_init_168 ?_
        refine x_iload_n d_P_init_171 1 rfl rfl ?_
        refine x_iconst d_P_init_172 ?_
        refine x_iast 52 (hM.at 15 rfl) rfl ⟨by decide, rfl, by decide⟩ rfl (by omega) d_P_init_173 (fun Q2 hQ2 => ?_)
        refine x_iinc d_P_init_174 rfl [some (.ref ((τ 30).1)), some (vi (k + 1))] rfl rfl (lr rfl) ?_
        refine x_goto (tgt := 154) d_P_init_177 rfl ?_
        exact ih _ (by omega) (k + 1) Q2 rfl (by omega) (fun p a b i => (xr_o hQ2 b).trans ((xr_o hQ1 a).trans (hkp p a b i))) (fun i a b => by
          by_cases e : i = k
          · rw [e, xr_s hQ2, xr_o hQ2 (by decide), xr_s hQ1]; exact ⟨rfl, rfl⟩
          · rw [xr_o hQ2 (by decide), xr_d hQ1 e, xr_d hQ2 e, xr_o hQ1 (by decide)]; exact h1s i a (by omega))
  refine x_iconst d_P_init_152 ?_
  refine x_istore_n d_P_init_153 1 rfl [some (.ref ((τ 30).1)), some (vi 0)] rfl rfl (lr rfl) ?_
  exact hl _ 0 R9 rfl (by omega) (fun _ _ _ _ => rfl) (fun i a b => by omega)
