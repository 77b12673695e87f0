/-! rows: getClass of an array of Object, arraycopy -/
theorem xH.repl {D : va_G} {dA : FieldType → ClassId} {N0 : Nat} {σ : xS} {R : xR} {H H1 : Heap} (hH : xH D dA N0 σ R H) {k : Int} {f : Int → Int} (hp : (σ k).2.1 ≠ 0) (ho : ∀ q, q ≠ (σ k).1 → H1[q]? = H[q]?) (hk : xAt D dA σ (xru R k f) k H1) : xH D dA N0 σ (xru R k f) H1 := by
  refine ⟨fun a ha => ?_, hH.2⟩
  obtain ⟨h1, h2, h3⟩ := hH.1 a ha
  refine ⟨h1, ?_, h3⟩
  by_cases e : a = k
  · subst e; exact hk
  · exact h2.kept rfl (xru_ne _ _ e) (fun _ _ _ _ => rfl) (ho _ (fun q => e (hH.2.1 a k ha hp q)))
theorem w_acS : Cond.static arraycopyName ∈ xtb := xin 224 (by decide +kernel) (by decide +kernel)
theorem w_acN : Cond.native arraycopyName ∈ xtb := xin 225 (by decide +kernel) (by decide +kernel)
theorem w_acI : Cond.initialized "java/lang/System" ∈ xtb := xin 13 (by decide +kernel) (by decide +kernel)
theorem w_acA : Cond.methodLink "java/util/Arrays" 150 arraycopyName ∈ xtb := xin 223 (by decide +kernel) (by decide +kernel)
def gcN : MethodName := ⟨"java/lang/Object", "getClass", "()Ljava/lang/Class;"⟩
theorem w_gcL : Cond.methodLink "java/util/Arrays" 86 gcN ∈ xtb := xin 640 (by decide +kernel) (by decide +kernel)
theorem w_gcI : Cond.instanceMethod gcN ∈ xtb := xin 641 (by decide +kernel) (by decide +kernel)
theorem w_gcN : Cond.native gcN ∈ xtb := xin 654 (by decide +kernel) (by decide +kernel)
theorem w_gcS : Cond.selects "[Ljava/lang/Object;" gcN gcN ∈ xtb := xin 1092 (by decide +kernel) (by decide +kernel)
section XR5
variable {X : xCtx} {M : xM} {B : xB} {σ : xS} {R : xR} {cn sn pc : Nat} {L : List (Option Value)} {st stk : List Value}
theorem x_getC (k : Int) {idx n a : Nat} (hs : (σ k).2 = (38, n)) (ha : (σ k).1 = a) (hlk : Cond.methodLink M.1.cls idx gcN ∈ xtb) (hB : 1 ≤ B.1) (hcat : (st.map fun v => v.category).sum ≤ 8) (hd : decode M.2.1 pc = .ok (.invokevirtual idx, 3)) (kk : V X M B σ R cn sn (pc + 3) L (.ref (σ 93).1 :: st)) : V X M B σ R cn sn pc L (.ref a :: st) := by
  obtain ⟨p, l, e, Rm, s, m, args, below, meth, c, N0, D, dA⟩ := X
  intro ok H locs ls hH hF hl
  obtain ⟨hN, q1⟩ := xAr hH hs (by decide)
  subst ha
  have ok' := ok
  obtain ⟨o1, o2, o3, o4, o5, o6, o7, o8, o9, o10, o11, o12, o13, o14, o15⟩ := ok'
  refine va_getC o1 o2 (o3.trans hl.1.symm) o5 (o6 _ hlk) (va_Nw.use rfl (o7.2.wd 1093 (w := .declares gcN) (by decide +kernel) rfl)) (o6 _ w_gcS) (o6 _ w_gcI) (o6 _ w_gcN) o7.2.2.2.2.2.2.2.2.1 ⟨_, q1, rfl, ?_⟩ (Nat.le_trans hB o12) (by omega) hd ?_
  · exact (o7.1.2 (.object "java/lang/Object") (by decide)).2
  · rw [← (hH.2.2 93 (by decide) (by decide)).1]
    exact kk ok H locs ls hH hF hl
theorem xcopy0 {n : Int} (h : 0 ≤ n ∧ n < 2147483648) : (iI n).toInt = n := iI_toInt (by omega)
/-- arraycopy of the first n places of an array of Object -/
theorem x_copyO (k0 k1 : Int) {idx n0 n1 a0 a1 : Nat} {n : Int} (hs0 : (σ k0).2 = (38, n0)) (ha0 : (σ k0).1 = a0) (hs1 : (σ k1).2 = (38, n1)) (ha1 : (σ k1).1 = a1) (hn : 0 ≤ n ∧ n ≤ n0 ∧ n ≤ n1) (hb : n0 < 2147483648 ∧ n1 < 2147483648)
    (hel : ∀ i, 0 ≤ i → i < n → R k0 i = 0 ∨ ∃ (kv : Int) (tv nv : Nat), (σ kv).2 = (tv, nv) ∧ R k0 i = ((σ kv).1 : Int) + 1 ∧ (tv ≠ 0 ∧ tv < 32 ∧ ((tv - 1) % 16 = 1 ∨ (tv - 1) % 16 = 2))) (hlk : Cond.methodLink M.1.cls idx arraycopyName ∈ xtb) (hB : 1 ≤ B.1) (hcat : (st.map fun v => v.category).sum ≤ 8) (hd : decode M.2.1 pc = .ok (.invokestatic idx, 3))
    (kk : ∀ R1, R1 = xru R k1 (fun i => if 0 ≤ i ∧ i < n then R k0 i else R k1 i) → V X M B σ R1 cn sn (pc + 3) L st) : V X M B σ R cn sn pc L (vi n :: vi 0 :: .ref a1 :: vi 0 :: .ref a0 :: st) := by
  obtain ⟨p, l, e, Rm, s, m, args, below, meth, c, N0, D, dA⟩ := X
  intro ok H locs ls hH hF hl
  obtain ⟨hN0, hc0⟩ := xAr hH hs0 (by decide)
  obtain ⟨hN1, hc1⟩ := xAr hH hs1 (by decide)
  subst ha0
  subst ha1
  have ok' := ok
  obtain ⟨o1, o2, o3, o4, o5, o6, o7, o8, o9, o10, o11, o12, o13, o14, o15⟩ := ok'
  obtain ⟨kA, kE, comp, r1, r2, r3, r4⟩ := xobj ok
  have hcl : (iI n).toNatClampNeg = n.toNat := iI_clamp (by omega)
  have h0c : (iI 0).toNatClampNeg = 0 := by decide
  intro T hT XX
  obtain ⟨-, kk0, hk0, cm0, hkk0⟩ := (o7.1.2 (.object "java/lang/Object") (by decide)).1 n0 (fun j => xV σ k0 (xkd 38 j) (R k0 (j : Int)))
  obtain ⟨-, kk1, hk1, cm1, hkk1⟩ := (o7.1.2 (.object "java/lang/Object") (by decide)).1 n1 (fun j => xV σ k1 (xkd 38 j) (R k1 (j : Int)))
  have ti : (iI n).toInt = n := iI_toInt (by omega)
  have t0 : (iI 0).toInt = 0 := by decide
  obtain ⟨vm', X', step⟩ := XX.arraycopy o1 o5 (o6 _ hlk) (o6 _ w_acN) (o6 _ w_acS) (o6 _ w_acI) (src := (σ k0).1) (dst := (σ k1).1) (srcPos := iI 0) (destPos := iI 0) (n := iI n) (by rw [hT]; exact hc0) (by rw [hT]; exact hc1)
    (fun _ h => by cases h) (fun _ h => by cases h) (fun h => by cases h) (fun h => by cases h) hk0 hk1 hkk0 hkk1 rfl (by decide) (by decide) (by rw [iI_lt0 (by omega)]; omega)
    (by rw [t0, ti, arrV_size]; omega) (by rw [t0, ti, arrV_size]; omega)
    (fun vm₁ hal i hi => by
      rw [hcl] at hi
      have e : (arrV (dA (.object "java/lang/Object")) n0 (fun j => xV σ k0 (xkd 38 j) (R k0 (j : Int)))).slots.getD ((iI 0).toNatClampNeg + i) .null = rz (R k0 (i : Int)) := by
        rw [h0c, Nat.zero_add, Array.getD_eq_getD_getElem?, arrV_read _ _ (by omega)]
        rfl
      rw [e]
      rcases hel i (by omega) (by omega) with hz | ⟨kv, tv, nv, v1, v2, v3⟩
      · rw [hz]; exact ⟨rfl, trivial⟩
      · rw [v2, rz_s]
        have hcx : ∃ (ci : Nat) (C : String) (TT : u_T) (NN iw : Nat), (tv - 1) % 16 = ci ∧ xcl[ci]? = some (C, TT, NN) ∧ tables_1[iw]? = some (.castable C "java/lang/Object") := by
          rcases v3.2.2 with q | q
          · exact ⟨1, _, _, _, 1097, q, rfl, by decide +kernel⟩
          · exact ⟨2, _, _, _, 1098, q, rfl, by decide +kernel⟩
        obtain ⟨ci, C, TT, NN, iw, w1, w2, w3⟩ := hcx
        obtain ⟨-, cell, g1, g2, g3, g4⟩ := xOb hH v1 v3.1 v3.2.1 w1 w2
        have hcls := (o7.1.1 ci _ w2).2
        obtain ⟨c0, t1, f1, f2, f3⟩ := Cond.castable_spec (va_Nw.use (A := args) rfl (o7.2.wd iw w3 rfl))
        cases hcls.1.symm.trans f1
        cases r3.symm.trans f2
        obtain ⟨kC, hkC, -⟩ := hcls.2
        cases hk1.symm.trans r1
        cases hkk1.symm.trans r2
        obtain ⟨kC', hkC', -⟩ := hal.2.2 _ _ hkC
        obtain ⟨kE', hkE', -⟩ := hal.2.2 _ _ r4
        refine ⟨rfl, cell, (show T.heap[(σ kv).1]? = some cell by rw [hT]; exact g1), (fun q h => by rw [g3] at h; cases h), ⟨kC', by rw [g2]; exact hkC'⟩, ⟨kE', hkE'⟩, ?_⟩
        show vm₁.assignable _ _ = true
        rw [hal.assignable, g2]
        exact f3)
    (g := F0 m pc ls (vi n :: vi 0 :: .ref (σ k1).1 :: vi 0 :: .ref (σ k0).1 :: st)) rfl (by rw [o3]; exact hl.1) (rest := st) rfl (by rw [o2]; exact hd) (Nat.le_trans hB o12) (by show 2 * 0 + _ + _ ≤ _; have hw : nativeFrameWords "java/lang/System" "arraycopy" 5 = 7 := (by decide); omega)
  have e1 : copied (arrV (dA (.object "java/lang/Object")) n0 (fun j => xV σ k0 (xkd 38 j) (R k0 (j : Int)))) (arrV (dA (.object "java/lang/Object")) n1 (fun j => xV σ k1 (xkd 38 j) (R k1 (j : Int)))) (iI 0) (iI 0) (iI n) = arrV (dA (.object "java/lang/Object")) n1 (fun j => rz (va_cpy (fun j => R k0 (j : Int)) (fun j => R k1 (j : Int)) (iI 0).toNatClampNeg (iI 0).toNatClampNeg (iI n).toNatClampNeg j)) := va_copied (fun z => rz z) _ _ (fun j => R k0 (j : Int)) (fun j => R k1 (j : Int)) (by rw [h0c, hcl]; omega)
  rw [e1] at X' step
  have hlt : (σ k1).1 < H.size := (Array.getElem?_eq_some_iff.mp hc1).1
  generalize hcell : arrV (dA (.object "java/lang/Object")) n1 (fun j => rz (va_cpy (fun j => R k0 (j : Int)) (fun j => R k1 (j : Int)) (iI 0).toNatClampNeg (iI 0).toNatClampNeg (iI n).toNatClampNeg j)) = cellN at X' step
  have hheap : ((T.setVm vm').setCell (σ k1).1 cellN).heap = H.setIfInBounds (σ k1).1 cellN := by rw [← hT]; rfl
  have oq : ∀ q : Nat, q ≠ (σ k1).1 → (H.setIfInBounds (σ k1).1 cellN)[q]? = H[q]? := fun q hq => by simp [Array.getElem?_setIfInBounds, Ne.symm hq]
  obtain ⟨t, a1, b1⟩ := kk _ rfl ok _ _ ls (hH.repl (by rw [hs1]; show 38 ≠ 0; decide) oq (by
      unfold xAt
      rw [hs1, xru_self]
      rw [if_neg (show ¬ (38 : Nat) < 32 by decide)]
      show (H.setIfInBounds (σ k1).1 cellN)[(σ k1).1]? = _
      rw [show (H.setIfInBounds (σ k1).1 cellN)[(σ k1).1]? = some cellN by simp [Array.getElem?_setIfInBounds, hlt], ← hcell]
      refine congrArg some (congrArg (arrV (dA (.object "java/lang/Object")) n1) (funext fun j => ?_))
      refine congrArg rz ?_
      unfold va_cpy
      rw [h0c, hcl]
      by_cases c1 : j < n.toNat
      · rw [if_pos (by omega), if_pos (by omega), show 0 + (j - 0) = j by omega]
      · rw [if_neg (by omega), if_neg (by omega)])) ⟨by simp; exact hF.1, fun q g1 => by
      rw [oq q (fun e => by rw [e] at g1; omega)]
      exact hF.2.1 q g1, fun q hq => by
      rcases List.mem_append.mp hq with h | h
      · exact hF.2.2 q h
      · obtain ⟨z, -, hz⟩ := List.mem_map.mp h
        rw [← hz]
        exact hN1⟩ hl _ hheap X'
  exact ⟨t, step t a1, b1⟩
/-- arraycopy of the first n places of an array of bytes -/
theorem x_copyB (k0 k1 : Int) {idx n0 n1 a0 a1 : Nat} {n : Int} (hs0 : (σ k0).2 = (35, n0)) (ha0 : (σ k0).1 = a0) (hs1 : (σ k1).2 = (35, n1)) (ha1 : (σ k1).1 = a1) (hn : 0 ≤ n ∧ n ≤ n0 ∧ n ≤ n1) (hb : n0 < 2147483648 ∧ n1 < 2147483648)
    (hel : ∀ i, 0 ≤ i → i < n → fits .byte (vi (R k0 i)) = true) (hlk : Cond.methodLink M.1.cls idx arraycopyName ∈ xtb) (hB : 1 ≤ B.1) (hcat : (st.map fun v => v.category).sum ≤ 8) (hd : decode M.2.1 pc = .ok (.invokestatic idx, 3))
    (kk : ∀ R1, R1 = xru R k1 (fun i => if 0 ≤ i ∧ i < n then R k0 i else R k1 i) → V X M B σ R1 cn sn (pc + 3) L st) : V X M B σ R cn sn pc L (vi n :: vi 0 :: .ref a1 :: vi 0 :: .ref a0 :: st) := by
  obtain ⟨p, l, e, Rm, s, m, args, below, meth, c, N0, D, dA⟩ := X
  intro ok H locs ls hH hF hl
  obtain ⟨hN0, hc0⟩ := xAr hH hs0 (by decide)
  obtain ⟨hN1, hc1⟩ := xAr hH hs1 (by decide)
  subst ha0
  subst ha1
  have ok' := ok
  obtain ⟨o1, o2, o3, o4, o5, o6, o7, o8, o9, o10, o11, o12, o13, o14, o15⟩ := ok'
  have hcl : (iI n).toNatClampNeg = n.toNat := iI_clamp (by omega)
  have h0c : (iI 0).toNatClampNeg = 0 := by decide
  intro T hT XX
  obtain ⟨-, kk0, hk0, cm0, hkk0⟩ := (o7.1.2 .byte (by decide)).1 n0 (fun j => xV σ k0 (xkd 35 j) (R k0 (j : Int)))
  obtain ⟨-, kk1, hk1, cm1, hkk1⟩ := (o7.1.2 .byte (by decide)).1 n1 (fun j => xV σ k1 (xkd 35 j) (R k1 (j : Int)))
  have ti : (iI n).toInt = n := iI_toInt (by omega)
  have t0 : (iI 0).toInt = 0 := by decide
  obtain ⟨vm', X', step⟩ := XX.arraycopy o1 o5 (o6 _ hlk) (o6 _ w_acN) (o6 _ w_acS) (o6 _ w_acI) (src := (σ k0).1) (dst := (σ k1).1) (srcPos := iI 0) (destPos := iI 0) (n := iI n) (by rw [hT]; exact hc0) (by rw [hT]; exact hc1)
    (fun _ h => by cases h) (fun _ h => by cases h) (fun h => by cases h) (fun h => by cases h) hk0 hk1 hkk0 hkk1 rfl (by decide) (by decide) (by rw [iI_lt0 (by omega)]; omega)
    (by rw [t0, ti, arrV_size]; omega) (by rw [t0, ti, arrV_size]; omega)
    (fun vm₁ hal i hi => by
      rw [hcl] at hi
      have e : (arrV (dA .byte) n0 (fun j => xV σ k0 (xkd 35 j) (R k0 (j : Int)))).slots.getD ((iI 0).toNatClampNeg + i) .null = vi (R k0 (i : Int)) := by
        rw [h0c, Nat.zero_add, Array.getD_eq_getD_getElem?, arrV_read _ _ (by omega)]
        rfl
      rw [e]
      exact ⟨hel i (by omega) (by omega), trivial⟩)
    (g := F0 m pc ls (vi n :: vi 0 :: .ref (σ k1).1 :: vi 0 :: .ref (σ k0).1 :: st)) rfl (by rw [o3]; exact hl.1) (rest := st) rfl (by rw [o2]; exact hd) (Nat.le_trans hB o12) (by show 2 * 0 + _ + _ ≤ _; have hw : nativeFrameWords "java/lang/System" "arraycopy" 5 = 7 := (by decide); omega)
  have e1 : copied (arrV (dA .byte) n0 (fun j => xV σ k0 (xkd 35 j) (R k0 (j : Int)))) (arrV (dA .byte) n1 (fun j => xV σ k1 (xkd 35 j) (R k1 (j : Int)))) (iI 0) (iI 0) (iI n) = arrV (dA .byte) n1 (fun j => vi (va_cpy (fun j => R k0 (j : Int)) (fun j => R k1 (j : Int)) (iI 0).toNatClampNeg (iI 0).toNatClampNeg (iI n).toNatClampNeg j)) := va_copied (fun z => vi z) _ _ (fun j => R k0 (j : Int)) (fun j => R k1 (j : Int)) (by rw [h0c, hcl]; omega)
  rw [e1] at X' step
  have hlt : (σ k1).1 < H.size := (Array.getElem?_eq_some_iff.mp hc1).1
  generalize hcell : arrV (dA .byte) n1 (fun j => vi (va_cpy (fun j => R k0 (j : Int)) (fun j => R k1 (j : Int)) (iI 0).toNatClampNeg (iI 0).toNatClampNeg (iI n).toNatClampNeg j)) = cellN at X' step
  have hheap : ((T.setVm vm').setCell (σ k1).1 cellN).heap = H.setIfInBounds (σ k1).1 cellN := by rw [← hT]; rfl
  have oq : ∀ q : Nat, q ≠ (σ k1).1 → (H.setIfInBounds (σ k1).1 cellN)[q]? = H[q]? := fun q hq => by simp [Array.getElem?_setIfInBounds, Ne.symm hq]
  obtain ⟨t, a1, b1⟩ := kk _ rfl ok _ _ ls (hH.repl (by rw [hs1]; show 35 ≠ 0; decide) oq (by
      unfold xAt
      rw [hs1, xru_self]
      rw [if_neg (show ¬ (35 : Nat) < 32 by decide)]
      show (H.setIfInBounds (σ k1).1 cellN)[(σ k1).1]? = _
      rw [show (H.setIfInBounds (σ k1).1 cellN)[(σ k1).1]? = some cellN by simp [Array.getElem?_setIfInBounds, hlt], ← hcell]
      refine congrArg some (congrArg (arrV (dA .byte) n1) (funext fun j => ?_))
      refine congrArg vi ?_
      unfold va_cpy
      rw [h0c, hcl]
      by_cases c1 : j < n.toNat
      · rw [if_pos (by omega), if_pos (by omega), show 0 + (j - 0) = j by omega]
      · rw [if_neg (by omega), if_neg (by omega)])) ⟨by simp; exact hF.1, fun q g1 => by
      rw [oq q (fun e => by rw [e] at g1; omega)]
      exact hF.2.1 q g1, fun q hq => by
      rcases List.mem_append.mp hq with h | h
      · exact hF.2.2 q h
      · obtain ⟨z, -, hz⟩ := List.mem_map.mp h
        rw [← hz]
        exact hN1⟩ hl _ hheap X'
  exact ⟨t, step t a1, b1⟩
end XR5
