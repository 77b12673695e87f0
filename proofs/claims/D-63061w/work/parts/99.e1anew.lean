/-! rows: an array whose places are for arrays -/
section XAN
variable {X : xCtx} {M : xM} {B : xB} {σ : xS} {R : xR} {cn sn pc : Nat} {L : List (Option Value)} {st stk : List Value}
/-- an array for arrays of whole numbers -/
theorem x_anewA (k : Int) {idx N : Nat} {i : Int} (h9 : k < 90 ∨ 99 < k) (hk : (σ k).2.1 = 0) (hlk : Cond.classLink M.1.cls idx "[I" ∈ xtb) (hi : i = (N : Int)) (hN : N ≤ 1000) (hd : decode M.2.1 pc = .ok (.anewarray idx, 3)) (hcs : cn + 1 ≤ B.2.1 ∧ sn + N ≤ B.2.2.1)
    (kk : ∀ q : Nat, V X M B (xsu σ k (q, 39, N)) (xru R k (fun _ => 0)) (cn + 1) (sn + N) (pc + 3) L (.ref q :: st)) : V X M B σ R cn sn pc L (vi i :: st) := by
  obtain ⟨p, l, e, Rm, s, m, args, below, meth, c, N0, D, dA⟩ := X
  intro ok H locs ls hH hF hl
  have ok' := ok
  obtain ⟨o1, o2, o3, o4, o5, o6, o7, o8, o9, o10, o11, o12, o13, o14, o15⟩ := ok'
  subst hi
  have hcl : (iI (N : Int)).toNatClampNeg = N := by rw [iI_clamp (by omega)]; rfl
  refine W.anewA o1 o2 (t := .int) o5 (o6 _ hlk) (o7.2.wd 95 (w := .arrayOver (.array .int)) (by decide +kernel) rfl) rfl hd rfl (by rw [iI_lt0 (by omega)]; omega) (by rw [hcl]; omega) (Nat.le_trans hcs.1 o14) (by rw [hcl]; exact Nat.le_trans hcs.2 o15) fun cA kA comp f1 f2 f3 f4 => ?_
  have hcA : cA = dA (.array .int) := Option.some.inj (f1.symm.trans (o7.1.2 (.array .int) (by decide)).2)
  subst hcA
  rw [hcl, arrV_new]
  have e1 : (H.push (arrV (dA (.array .int)) N (fun _ => .null)))[H.size]? = some (arrV (dA (.array .int)) N (fun _ => .null)) := by simp
  have o : ∀ q, q < H.size → (H.push (arrV (dA (.array .int)) N (fun _ => .null)))[q]? = H[q]? := fun q hq => by
    rw [Array.getElem?_push_lt hq, Array.getElem?_eq_getElem hq]
  refine kk H.size ok _ locs ls (hH.add h9 hk (Nat.le_trans o9 hF.1) rfl o (fun j _ => lr rfl) ?_) ⟨Nat.le_trans hF.1 (by simp), fun q hq => (o q (Nat.lt_of_lt_of_le hq (Nat.le_trans o9 hF.1))).trans (hF.2.1 q hq), hF.2.2⟩ hl
  unfold xAt
  rw [xsu_self, xru_self, if_neg (show ¬ (39 : Nat) < 32 by decide)]
  show _ = some (arrV (dA (xel 39)) N (fun j => xV (xsu σ k (H.size, 39, N)) k (xkd 39 j) 0))
  rw [e1]
  rfl
end XAN
theorem xasg (vm : Vm) (c : ClassId) : vm.assignable c c = true := by
  unfold Vm.assignable
  rw [show (256 : Nat) = 255 + 1 by rfl]
  unfold Vm.assignableAux
  simp
section XAA
variable {X : xCtx} {M : xM} {B : xB} {σ : xS} {R : xR} {cn sn pc : Nat} {L : List (Option Value)} {st stk : List Value}
/-- an array of whole numbers is put into an array of such -/
theorem x_aastA (k kv : Int) {n nv a v : Nat} {i : Int} (hs : (σ k).2 = (39, n)) (ha : (σ k).1 = a) (hkv : (σ kv).2 = (32, nv)) (hav : (σ kv).1 = v) (hn : n < 2147483648) (hi : 0 ≤ i ∧ i < n) (hd : decode M.2.1 pc = .ok (.aastore, 1))
    (kk : ∀ R1, R1 = xup R k i ((v : Int) + 1) → V X M B σ R1 cn sn (pc + 1) L st) : V X M B σ R cn sn pc L (.ref v :: vi i :: .ref a :: st) := by
  obtain ⟨p, l, e, Rm, s, m, args, below, meth, c, N0, D, dA⟩ := X
  intro ok H locs ls hH hF hl
  obtain ⟨hN, q1⟩ := xAr hH hs (by decide)
  obtain ⟨-, q2⟩ := xAr hH hkv (by decide)
  subst ha
  subst hav
  have o7 := ok.2.2.2.2.2.2.1
  obtain ⟨comp, cA, kA, f1, f2, f3, f4⟩ := xAo (args := args) (o7.2.wd 95 (w := .arrayOver (.array .int)) (by decide +kernel) rfl)
  have n1 := (o7.1.2 .int (by decide)).2
  have n2 := (o7.1.2 (.array .int) (by decide)).2
  have eA : cA = dA (.array .int) := Option.some.inj (f4.symm.trans n2)
  have eC : comp = dA .int := Option.some.inj (f1.symm.trans n1)
  subst eA
  subst eC
  obtain ⟨kC, hkC, -⟩ := Vm.findClass_spec f1
  refine W.aast ok.1 ok.2.1 q1 (fun q h => by cases h) (fun h => by cases h) f2 f3 rfl hkC ⟨by rw [iI_lt0 (by omega)]; omega, by rw [arrV_size, iI_clamp (by omega)]; omega⟩ q2 (fun q h => by cases h) hkC (xasg _ _) rfl rfl hd fun H1 e1 e2 e3 => ?_
  rw [iI_clamp (by omega)] at e1
  rw [iI_clamp (by omega)]
  exact kk _ rfl ok H1 _ ls (hH.set (by rw [hs]; show 39 ≠ 0; decide) e3 (xAt.setAr hs (by decide) hi e1 rfl)) (hF.put e2 e3 hN) hl
end XAA
