/-! rows: a private method, the receiver being of a subclass -/
section XR8
variable {X : xCtx} {M : xM} {B : xB} {σ : xS} {R : xR} {cn sn pc : Nat} {L : List (Option Value)} {st stk : List Value}
theorem x_callP {M' : xM} {d mc ms nargs idx a t n ci : Nat} {As : List Value} {Z : xZ} {T : u_T} {N : Nat} {C C0 : String} (y0 : MethodName) (ct : Ct M' d mc ms (.ref a :: As) σ R Z) (mk : xMk M' nargs) (hlink : Cond.methodLink M.1.cls idx M'.1 ∈ xtb) (hin : Cond.instanceMethod M'.1 ∈ xtb) (hy0 : y0.cls = M'.1.cls) (hsib : Cond.selects C0 y0 y0 ∈ xtb) (ip : Nat) (hpr : tables_1[ip]? = some (.privateMethod M'.1))
    (k : Int) (hs : (σ k).2 = (t, n)) (ha : (σ k).1 = a) (h0 : t ≠ 0 ∧ t < 32 ∧ (t - 1) % 16 = ci) (hc : xcl[ci]? = some (C, T, N)) (hlen : As.length = nargs) (hstk : stk = As.reverse ++ .ref a :: st) (hcat : (st.map fun v => v.category).sum ≤ 8) (hd : decode M.2.1 pc = .ok (.invokevirtual idx, 3))
    (hB : d + 1 ≤ B.1) (hcs : cn + mc ≤ B.2.1 ∧ sn + ms ≤ B.2.2.1)
    (kk : ∀ r σ' R', Z (.returned r) σ' R' → V X M B σ' R' (cn + mc) (sn + ms) (pc + 3) L (r.toList ++ st)) : V X M B σ R cn sn pc L stk := by
  obtain ⟨p, l, e, Rm, s, m, args, below, meth, c, N0, D, dA⟩ := X
  intro ok H locs ls hH hF hl
  have ok' := ok
  obtain ⟨o1, o2, o3, o4, o5, o6, o7, o8, o9, o10, o11, o12, o13, o14, o15⟩ := ok'
  obtain ⟨hN, cell, q1, q2, q3, -⟩ := xOb hH hs h0.1 h0.2.1 h0.2.2 hc
  subst ha
  have h45 := mk.2.2.2
  have cw : CallB Rm s args M.1.cls idx M'.1 M'.2.1 M'.2.2.1 M'.2.2.2 (xw M') (xrm d mc ms) mc ms nargs := callB_of nargs o6 (xgoodIn mk (ws := []) (fun _ h => by cases h)) rfl rfl rfl (o6 _ mk.2.2.1) (o6 _ hlink) mk.2.1 ⟨Nat.le_trans hB o12, by show 8 + (M'.2.2.1 + 11) + 64 * d ≤ Rm.locals; omega⟩
  have hse : (Cond.selects M'.1.cls M'.1 M'.1).before args s = true := by
    obtain ⟨c2, r2, m2, -, -, w3, -, kP, hkP, hkPi⟩ := Cond.selects_spec (o6 _ hsib)
    have hfc := findClass_of_methodNamed w3
    rw [hy0] at hfc
    exact selects_self_of_private hfc hkP hkPi (Cond.privateMethod_at (o7.2.wd ip hpr rfl)) (o6 _ hin) ⟨mk.2.1.1, mk.2.1.2.1⟩
  refine xback ok hF hl (mc := mc) (ms := ms) (Z := Z) (av := (.ref (σ k).1 :: As).toArray) ?_ kk
  have hK : Back l Rm p e below s args M'.1 3 8 (PreOf Rm mc ms (xPc l D dA N0 σ R (.ref (σ k).1 :: As))) (PostOf (xQc D dA N0 Z) mc ms (xfr N0)) := callBack cw (ct l N0 D dA) xPc.blind
  obtain ⟨-, -, -, -, -, -, hcode, -, hy, hlen', hlk⟩ := cw
  intro TT hT XX
  obtain ⟨v, vm₁, ⟨U', l2, c2, s2⟩, hW₁, X', ⟨g', mk', t, L', e1, e2, hq, h1, hL, h2, h3⟩, hst⟩ := XX.privateBack o1 (bytes := M'.2.1) (maxL := M'.2.2.1) (ret := M'.2.2.2) o5 hlk (o6 _ hin) hse (Cond.privateMethod_at (o7.2.wd ip hpr rfl)) hcode hy hK (g := F0 m pc ls stk) rfl (by rw [o3]; exact hl.1) (Steps.refl _) (a := (σ k).1) (cell := cell) (by rw [hT]; exact q1) (fun q h => by rw [q3] at h; cases h) (argsL := As) (rest := st) (fun sig h => hlen.trans (hlen' sig h)) hstk (lv_room hcat) (by rw [o2]; exact hd)
    (fun vm₁ hW₁ => ⟨Nat.le_trans hcs.1 o14, Nat.le_trans hcs.2 o15, xpre ok hH hF (TT.setVm vm₁) hT hW₁⟩)
  dsimp only [Pt.U, Pt.locs, Pt.cells, Pt.slots] at X' e1 e2 h1 h2 h3 hst
  subst h1; subst h2; subst h3
  exact ⟨v, (TT.setVm vm₁).calling g' mk' (Value.ref (σ k).1 :: As).toArray, t, U', L', hT, X', hL, e1, e2, hq, fun target h => hst.trans h⟩
end XR8
