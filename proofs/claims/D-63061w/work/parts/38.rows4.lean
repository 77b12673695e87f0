/-! rows: statics, arrays of references, casts, Class objects, arraycopy -/
theorem xT.wd {l : Launch} {N0 : Nat} {dA : FieldType → ClassId} {s : State} (h : xT l N0 dA s) (i : Nat) {w : Cond} (hi : tables_1[i]? = some w) (hk : xwk w = true) : va_Nw w s := h.2.2.2.2.2.2.2.2 w (List.mem_append_left _ (List.mem_of_getElem? hi)) hk
section XR4
variable {X : xCtx} {M : xM} {B : xB} {σ : xS} {R : xR} {cn sn pc : Nat} {L : List (Option Value)} {st stk : List Value}
theorem xF.vs {N0 : Nat} {s : State} {H : Heap} {locs : List Loc} (hF : xF N0 s H locs) : va_S (fun q => N0 ≤ q) s.heap H locs := ⟨hF.1, fun q _ h => hF.2.1 q (by omega), hF.2.2⟩
theorem x_getsE {idx : Nat} (hlk : Cond.fieldLink M.1.cls idx "java/util/ArrayList" "DEFAULTCAPACITY_EMPTY_ELEMENTDATA" "[Ljava/lang/Object;" ∈ xtb) (hd : decode M.2.1 pc = .ok (.getstatic idx, 3)) (kk : V X M B σ R cn sn (pc + 3) L (.ref (σ 90).1 :: st)) : V X M B σ R cn sn pc L st := by
  obtain ⟨p, l, e, Rm, s, m, args, below, meth, c, N0, D, dA⟩ := X
  intro ok H locs ls hH hF hl
  refine va_gets ok.1 ok.2.1 ok.2.2.2.2.2.2.1.2.2.1 hF.vs ok.2.2.2.2.1 (ok.2.2.2.2.2.1 _ hlk) (fun x h => h) hd ?_
  rw [← (hH.2.2 90 (by decide) (by decide)).1]
  exact kk ok H locs ls hH hF hl
theorem x_getsC {idx : Nat} (hlk : Cond.fieldLink M.1.cls idx "java/lang/String" "COMPACT_STRINGS" "Z" ∈ xtb) (hd : decode M.2.1 pc = .ok (.getstatic idx, 3)) (kk : V X M B σ R cn sn (pc + 3) L (vi 1 :: st)) : V X M B σ R cn sn pc L st := by
  obtain ⟨p, l, e, Rm, s, m, args, below, meth, c, N0, D, dA⟩ := X
  intro ok H locs ls hH hF hl
  refine va_gets ok.1 ok.2.1 ok.2.2.2.2.2.2.1.2.2.2.2.1 hF.vs ok.2.2.2.2.1 (ok.2.2.2.2.2.1 _ hlk) (fun x h => h) hd ?_
  exact kk ok H locs ls hH hF hl
theorem x_gets1 {idx : Nat} (hlk : Cond.fieldLink M.1.cls idx "java/lang/Throwable" "UNASSIGNED_STACK" "[Ljava/lang/StackTraceElement;" ∈ xtb) (hd : decode M.2.1 pc = .ok (.getstatic idx, 3)) (kk : V X M B σ R cn sn (pc + 3) L (rz ((σ 91).1 : Int) :: st)) : V X M B σ R cn sn pc L st := by
  obtain ⟨p, l, e, Rm, s, m, args, below, meth, c, N0, D, dA⟩ := X
  intro ok H locs ls hH hF hl
  refine va_gets ok.1 ok.2.1 ok.2.2.2.2.2.2.1.2.2.2.2.2.1 hF.vs ok.2.2.2.2.1 (ok.2.2.2.2.2.1 _ hlk) (fun x h => h) hd ?_
  rw [← (hH.2.2 91 (by decide) (by decide)).1]
  exact kk ok H locs ls hH hF hl
theorem x_gets2 {idx : Nat} (hlk : Cond.fieldLink M.1.cls idx "java/lang/Throwable" "SUPPRESSED_SENTINEL" "Ljava/util/List;" ∈ xtb) (hd : decode M.2.1 pc = .ok (.getstatic idx, 3)) (kk : V X M B σ R cn sn (pc + 3) L (rz ((σ 92).1 : Int) :: st)) : V X M B σ R cn sn pc L st := by
  obtain ⟨p, l, e, Rm, s, m, args, below, meth, c, N0, D, dA⟩ := X
  intro ok H locs ls hH hF hl
  refine va_gets ok.1 ok.2.1 ok.2.2.2.2.2.2.1.2.2.2.2.2.2.1 hF.vs ok.2.2.2.2.1 (ok.2.2.2.2.2.1 _ hlk) (fun x h => h) hd ?_
  rw [← (hH.2.2 92 (by decide) (by decide)).1]
  exact kk ok H locs ls hH hF hl
theorem x_gets4 {idx : Nat} (hlk : Cond.fieldLink M.1.cls idx "jdk/internal/util/Preconditions" "SIOOBE_FORMATTER" "Ljava/util/function/BiFunction;" ∈ xtb) (hd : decode M.2.1 pc = .ok (.getstatic idx, 3)) (kk : V X M B σ R cn sn (pc + 3) L (rz ((σ 94).1 : Int) :: st)) : V X M B σ R cn sn pc L st := by
  obtain ⟨p, l, e, Rm, s, m, args, below, meth, c, N0, D, dA⟩ := X
  intro ok H locs ls hH hF hl
  refine va_gets ok.1 ok.2.1 ok.2.2.2.2.2.2.1.2.2.2.2.2.2.2.1 hF.vs ok.2.2.2.2.1 (ok.2.2.2.2.2.1 _ hlk) (fun x h => h) hd ?_
  rw [← (hH.2.2 94 (by decide) (by decide)).1]
  exact kk ok H locs ls hH hF hl
theorem x_len0 (hd : decode M.2.1 pc = .ok (.arraylength, 1)) (kk : V X M B σ R cn sn (pc + 1) L (vi 0 :: st)) : V X M B σ R cn sn pc L (.ref (σ 90).1 :: st) := by
  obtain ⟨p, l, e, Rm, s, m, args, below, meth, c, N0, D, dA⟩ := X
  intro ok H locs ls hH hF hl
  obtain ⟨cell, h1, h2, h3, h4, h5, h6, h7⟩ := ok.2.2.2.2.2.2.1.2.2.2.1
  have e90 := (hH.2.2 90 (by decide) (by decide)).1
  rw [e90]
  exact W.alen (n := iI 0) ok.1 ok.2.1 (by rw [hF.2.1 _ (by omega)]; exact h1) h2 h5 rfl rfl hd (kk ok H locs ls hH hF hl)
theorem x_ldcM {idx : Nat} (hlk : Cond.classLink M.1.cls idx "[Ljava/lang/Object;" ∈ xtb) (hd : decode M.2.1 pc = .ok (.ldc idx, 2)) (kk : V X M B σ R cn sn (pc + 2) L (.ref (σ 93).1 :: st)) : V X M B σ R cn sn pc L st := by
  obtain ⟨p, l, e, Rm, s, m, args, below, meth, c, N0, D, dA⟩ := X
  intro ok H locs ls hH hF hl
  refine va_ldcM ok.1 ok.2.1 ok.2.2.2.2.1 (ok.2.2.2.2.2.1 _ hlk) ok.2.2.2.2.2.2.1.2.2.2.2.2.2.2.2.1 hd ?_
  rw [← (hH.2.2 93 (by decide) (by decide)).1]
  exact kk ok H locs ls hH hF hl
/-- the class of arrays of Object, its component -/
theorem xobj {p : Program} {l : Launch} {e : Env} {Rm : Room} {s : State} {m : MethodId} {args : Array Value} {below : List Frame} {meth : Method} {c : Code} {N0 : Nat} {D : va_G} {dA : FieldType → ClassId} (ok : xOk (p, l, e, Rm, s, m, args, below, meth, c, N0, D, dA) M B) : ∃ (kA kE : Class) (comp : ClassId), s.vm.classes[dA (.object "java/lang/Object")]? = some kA ∧ kA.kind = .array comp (.object "java/lang/Object") ∧ s.vm.findClass "java/lang/Object" = some comp ∧ s.vm.classes[comp]? = some kE := by
  have h := ok.2.2.2.2.2.2.1.2.wd 659 (w := .arrayOver (.object "java/lang/Object")) (by decide +kernel) rfl
  obtain ⟨comp, cA, k, h1, h2, h3, h4, h5⟩ := Cond.arrayOver_spec h
  have h6 := (ok.2.2.2.2.2.2.1.1.2 (.object "java/lang/Object") (by decide)).2
  cases h5.symm.trans h6
  obtain ⟨kE, hkE, -⟩ := Vm.findClass_spec h1
  exact ⟨k, kE, comp, h3, h4, h1, hkE⟩
/-- an object is put into an array of Object -/
theorem x_aast (k kv : Int) (iw : Nat) {n tv nv ci N a v : Nat} {C : String} {T : u_T} {i : Int} (hs : (σ k).2 = (38, n)) (ha : (σ k).1 = a) (hkv : (σ kv).2 = (tv, nv)) (hav : (σ kv).1 = v) (h0 : tv ≠ 0 ∧ tv < 32 ∧ (tv - 1) % 16 = ci) (hc : xcl[ci]? = some (C, T, N)) (hw : tables_1[iw]? = some (.castable C "java/lang/Object")) (hn : n < 2147483648) (hi : 0 ≤ i ∧ i < n) (hd : decode M.2.1 pc = .ok (.aastore, 1))
    (kk : ∀ R1, R1 = xup R k i ((v : Int) + 1) → V X M B σ R1 cn sn (pc + 1) L st) : V X M B σ R cn sn pc L (.ref v :: vi i :: .ref a :: st) := by
  obtain ⟨p, l, e, Rm, s, m, args, below, meth, c, N0, D, dA⟩ := X
  intro ok H locs ls hH hF hl
  obtain ⟨hN, q1⟩ := xAr hH hs (by decide)
  obtain ⟨-, cell, g1, g2, g3, g4⟩ := xOb hH hkv h0.1 h0.2.1 h0.2.2 hc
  subst ha
  subst hav
  obtain ⟨kA, kE, comp, k1, k2, k3, k4⟩ := xobj ok
  have hcls := (ok.2.2.2.2.2.2.1.1.1 ci _ hc).2
  obtain ⟨c0, t1, f1, f2, f3⟩ := Cond.castable_spec (va_Nw.use (A := args) rfl (ok.2.2.2.2.2.2.1.2.wd iw hw rfl))
  cases hcls.1.symm.trans f1
  cases k3.symm.trans f2
  obtain ⟨kC, hkC, -⟩ := hcls.2
  refine W.aast ok.1 ok.2.1 q1 (fun q h => by cases h) (fun h => by cases h) k1 k2 rfl k4 ⟨by rw [iI_lt0 (by omega)]; omega, by rw [arrV_size, iI_clamp (by omega)]; omega⟩ g1 (fun q h => by rw [g3] at h; cases h) (by rw [g2]; exact hkC) (by rw [g2]; exact f3) rfl rfl hd fun H1 e1 e2 e3 => ?_
  rw [iI_clamp (by omega)] at e1
  rw [iI_clamp (by omega)]
  exact kk _ rfl ok H1 _ ls (hH.set (by rw [hs]; show 38 ≠ 0; decide) e3 (xAt.setAr hs (by decide) hi e1 rfl)) (hF.put e2 e3 hN) hl
theorem x_aastN (k : Int) {n a : Nat} {i : Int} (hs : (σ k).2 = (38, n)) (ha : (σ k).1 = a) (hn : n < 2147483648) (hi : 0 ≤ i ∧ i < n) (hd : decode M.2.1 pc = .ok (.aastore, 1))
    (kk : ∀ R1, R1 = xup R k i 0 → V X M B σ R1 cn sn (pc + 1) L st) : V X M B σ R cn sn pc L (.null :: vi i :: .ref a :: st) := by
  obtain ⟨p, l, e, Rm, s, m, args, below, meth, c, N0, D, dA⟩ := X
  intro ok H locs ls hH hF hl
  obtain ⟨hN, q1⟩ := xAr hH hs (by decide)
  subst ha
  refine va_WaastN ok.1 ok.2.1 q1 (C := "java/lang/Object") (xarrOf ok.2.2.2.2.2.2.1.1 (by decide) _ _) (fun q => by cases q) (by rw [arrV_size]; exact iI_in hi hn) rfl rfl hd fun H1 e1 e2 e3 => ?_
  rw [iI_clamp (by omega)] at e1
  rw [iI_clamp (by omega)]
  exact kk _ rfl ok H1 _ ls (hH.set (by rw [hs]; show 38 ≠ 0; decide) e3 (xAt.setAr hs (by decide) hi e1 rfl)) (hF.put e2 e3 hN) hl
theorem x_anewO (k : Int) {idx N : Nat} {i : Int} (h9 : k < 90 ∨ 99 < k) (hk : (σ k).2.1 = 0) (hlk : Cond.classLink M.1.cls idx "java/lang/Object" ∈ xtb) (hi : i = (N : Int)) (hN : N < 10000000) (hd : decode M.2.1 pc = .ok (.anewarray idx, 3)) (hcs : cn + 1 ≤ B.2.1 ∧ sn + N ≤ B.2.2.1)
    (kk : ∀ q : Nat, V X M B (xsu σ k (q, 38, N)) (xru R k (fun _ => 0)) (cn + 1) (sn + N) (pc + 3) L (.ref q :: st)) : V X M B σ R cn sn pc L (vi i :: st) := by
  obtain ⟨p, l, e, Rm, s, m, args, below, meth, c, N0, D, dA⟩ := X
  intro ok H locs ls hH hF hl
  have ok' := ok
  obtain ⟨o1, o2, o3, o4, o5, o6, o7, o8, o9, o10, o11, o12, o13, o14, o15⟩ := ok'
  subst hi
  have hcl : (iI (N : Int)).toNatClampNeg = N := by rw [iI_clamp (by omega)]; rfl
  refine W.anew o1 o2 o5 (o6 _ hlk) (o7.2.wd 659 (w := .arrayOver (.object "java/lang/Object")) (by decide +kernel) rfl) rfl hd rfl (by rw [iI_lt0 (by omega)]; omega) (by rw [hcl]; omega) (Nat.le_trans hcs.1 o14) (by rw [hcl]; exact Nat.le_trans hcs.2 o15) fun cA kA comp f1 f2 f3 f4 => ?_
  have hcA : cA = dA (.object "java/lang/Object") := Option.some.inj (f1.symm.trans (o7.1.2 (.object "java/lang/Object") (by decide)).2)
  subst hcA
  rw [hcl]
  have e1 : (H.push { cls := dA (.object "java/lang/Object"), slots := Array.replicate N .null, vm := .none })[H.size]? = some { cls := dA (.object "java/lang/Object"), slots := Array.replicate N .null, vm := .none } := by simp
  have o : ∀ q, q < H.size → (H.push { cls := dA (.object "java/lang/Object"), slots := Array.replicate N .null, vm := .none })[q]? = H[q]? := fun q hq => by
    rw [Array.getElem?_push_lt hq, Array.getElem?_eq_getElem hq]
  refine kk H.size ok _ locs ls (hH.add h9 hk (Nat.le_trans o9 hF.1) rfl o (fun j _ => lr rfl) ?_) ⟨Nat.le_trans hF.1 (by simp), fun q hq => (o q (Nat.lt_of_lt_of_le hq (Nat.le_trans o9 hF.1))).trans (hF.2.1 q hq), hF.2.2⟩ hl
  unfold xAt
  rw [xsu_self, xru_self, if_neg (show ¬ (38 : Nat) < 32 by decide)]
  show _ = some (arrV (dA (xel 38)) N (fun j => xV (xsu σ k (H.size, 38, N)) k (xkd 38 j) 0))
  rw [e1]
  congr 1
  unfold arrV
  congr 1
  apply Array.ext
  · simp
  · intro i h1 h2
    simp
    rfl
/-- a cast of an object of the class itself -/
theorem x_castO (k : Int) (iw : Nat) {t n ci N a idx : Nat} {C : String} {T : u_T} (hs : (σ k).2 = (t, n)) (ha : (σ k).1 = a) (h0 : t ≠ 0 ∧ t < 32 ∧ (t - 1) % 16 = ci) (hc : xcl[ci]? = some (C, T, N)) (hw : tables_1[iw]? = some (.castable C C)) (hlk : Cond.classLink M.1.cls idx C ∈ xtb) (hd : decode M.2.1 pc = .ok (.checkcast idx, 3))
    (kk : V X M B σ R cn sn (pc + 3) L (.ref a :: st)) : V X M B σ R cn sn pc L (.ref a :: st) := by
  obtain ⟨p, l, e, Rm, s, m, args, below, meth, c, N0, D, dA⟩ := X
  intro ok H locs ls hH hF hl
  obtain ⟨-, cell, g1, g2, g3, g4⟩ := xOb hH hs h0.1 h0.2.1 h0.2.2 hc
  subst ha
  have hcls := (ok.2.2.2.2.2.2.1.1.1 ci _ hc).2
  exact va_castY ok.1 ok.2.1 ok.2.2.2.2.1 (ok.2.2.2.2.2.1 _ hlk) (ok.2.2.2.2.2.2.1.2.wd iw hw rfl) ⟨cell, g1, by rw [g3]; rfl, by rw [g2]; exact hcls.1⟩ hd (kk ok H locs ls hH hF hl)
end XR4
