/-! rows: calls of inherited or overriding methods, and of a super method -/
section XR7
variable {X : xCtx} {M : xM} {B : xB} {σ : xS} {R : xR} {cn sn pc : Nat} {L : List (Option Value)} {st stk : List Value}
theorem x_callU {M' : xM} {d mc ms nargs idx a t n ci : Nat} {As : List Value} {Z : xZ} {T : u_T} {N : Nat} {C owner : String} {x : MethodName} {b0 : ByteArray} {m0 : Nat} {r0 : Option FieldType} (ct : Ct M' d mc ms (.ref a :: As) σ R Z) (mk : xMk M' nargs) (hlink : Cond.methodLink M.1.cls idx x ∈ xtb) (hsame : Cond.sameMethod x.cls owner x.name x.desc ∈ xtb) (hino : Cond.instanceMethod ⟨owner, x.name, x.desc⟩ ∈ xtb) (hsel : Cond.selects C x M'.1 ∈ xtb) (hin : Cond.instanceMethod M'.1 ∈ xtb) (h0c : Cond.code ⟨owner, x.name, x.desc⟩ b0 m0 r0 ∈ xtb) (how : owner ≠ "java/lang/invoke/MethodHandle" ∧ owner ≠ "java/lang/invoke/VarHandle" ∧ (parseMethodDescriptor x.desc).map (fun d => d.parameters.length) = some nargs)
    (k : Int) (hs : (σ k).2 = (t, n)) (ha : (σ k).1 = a) (h0 : t ≠ 0 ∧ t < 32 ∧ (t - 1) % 16 = ci) (hc : xcl[ci]? = some (C, T, N)) (hlen : As.length = nargs) (hstk : stk = As.reverse ++ .ref a :: st) (hcat : (st.map fun v => v.category).sum ≤ 8) (hd : decode M.2.1 pc = .ok (.invokevirtual idx, 3))
    (hB : d + 1 ≤ B.1) (hcs : cn + mc ≤ B.2.1 ∧ sn + ms ≤ B.2.2.1)
    (kk : ∀ r σ' R', Z (.returned r) σ' R' → V X M B σ' R' (cn + mc) (sn + ms) (pc + 3) L (r.toList ++ st)) : V X M B σ R cn sn pc L stk := by
  obtain ⟨p, l, e, Rm, s, m, args, below, meth, c, N0, D, dA⟩ := X
  intro ok H locs ls hH hF hl
  have ok' := ok
  obtain ⟨o1, o2, o3, o4, o5, o6, o7, o8, o9, o10, o11, o12, o13, o14, o15⟩ := ok'
  obtain ⟨hN, cell, q1, q2, q3, -⟩ := xOb hH hs h0.1 h0.2.1 h0.2.2 hc
  subst ha
  refine xback ok hF hl (va_runU (As := As) (Ts := xtb) (own := M.1.cls) (C := C) (owner := owner) (x := x) (index := idx) (n := nargs) (bytes := M'.2.1) (maxL := M'.2.2.1) (ret := M'.2.2.2) (nL := M.2.2.1) (cc := M.2.1) ⟨o1, o2, o3, o5, o6⟩ (ct l N0 D dA)
    (va_cwO nargs o6 (xgoodIn mk (ws := [.methodLink M.1.cls idx x, .sameMethod x.cls owner x.name x.desc, .instanceMethod ⟨owner, x.name, x.desc⟩, .selects C x M'.1, .instanceMethod M'.1, .initialized M'.1.cls]) (by simp only [List.mem_cons, List.not_mem_nil, or_false]; rintro w (rfl | rfl | rfl | rfl | rfl | rfl); exact hlink; exact hsame; exact hino; exact hsel; exact hin; exact mk.2.2.1)) rfl rfl rfl h0c how ⟨Nat.le_trans hB o12, ?_⟩)
    ⟨xPc.blind, ⟨cell, q1, by rw [q3]; rfl, by rw [q2]; exact (o7.1.1 ci _ hc).2.1⟩, xpre ok hH hF⟩ rfl hlen hl.1 hstk (lv_room hcat) hd ⟨Nat.le_trans hcs.1 o14, Nat.le_trans hcs.2 o15⟩) kk
  have h45 := mk.2.2.2
  show 8 + (M'.2.2.1 + 11) + 64 * d ≤ Rm.locals
  omega
theorem x_callSU {M' : xM} {d mc ms nargs idx a t n ci : Nat} {As : List Value} {Z : xZ} {T : u_T} {N : Nat} {C : String} (ct : Ct M' d mc ms (.ref a :: As) σ R Z) (mk : xMk M' nargs) (hlink : Cond.methodLink M.1.cls idx M'.1 ∈ xtb) (hsame : Cond.sameMethod M'.1.cls M'.1.cls M'.1.name M'.1.desc ∈ xtb) (hsup : Cond.superclass M.1.cls M'.1.cls ∈ xtb) (hin : Cond.instanceMethod M'.1 ∈ xtb) (hnm : M'.1.name ≠ "<init>")
    (k : Int) (hs : (σ k).2 = (t, n)) (ha : (σ k).1 = a) (h0 : t ≠ 0 ∧ t < 32 ∧ (t - 1) % 16 = ci) (hc : xcl[ci]? = some (C, T, N)) (hlen : As.length = nargs) (hstk : stk = As.reverse ++ .ref a :: st) (hcat : (st.map fun v => v.category).sum ≤ 8) (hd : decode M.2.1 pc = .ok (.invokespecial idx, 3))
    (hB : d + 1 ≤ B.1) (hcs : cn + mc ≤ B.2.1 ∧ sn + ms ≤ B.2.2.1)
    (kk : ∀ r σ' R', Z (.returned r) σ' R' → V X M B σ' R' (cn + mc) (sn + ms) (pc + 3) L (r.toList ++ st)) : V X M B σ R cn sn pc L stk := by
  obtain ⟨p, l, e, Rm, s, m, args, below, meth, c, N0, D, dA⟩ := X
  intro ok H locs ls hH hF hl
  have ok' := ok
  obtain ⟨o1, o2, o3, o4, o5, o6, o7, o8, o9, o10, o11, o12, o13, o14, o15⟩ := ok'
  obtain ⟨hN, cell, q1, q2, q3, -⟩ := xOb hH hs h0.1 h0.2.1 h0.2.2 hc
  subst ha
  refine xback ok hF hl (va_runSU (o7.1.1 ci _ hc).2 (As := As) (Ts := xtb) (own := M.1.cls) (index := idx) (n := nargs) (bytes := M'.2.1) (maxL := M'.2.2.1) (ret := M'.2.2.2) (nL := M.2.2.1) (cc := M.2.1) ⟨o1, o2, o3, o5, o6⟩ (ct l N0 D dA)
    (va_cwSU nargs o6 (xgoodIn mk (ws := [.methodLink M.1.cls idx M'.1, .sameMethod M'.1.cls M'.1.cls M'.1.name M'.1.desc, .superclass M.1.cls M'.1.cls, .instanceMethod M'.1, .initialized M'.1.cls]) (by simp only [List.mem_cons, List.not_mem_nil, or_false]; rintro w (rfl | rfl | rfl | rfl | rfl); exact hlink; exact hsame; exact hsup; exact hin; exact mk.2.2.1)) rfl rfl rfl ⟨hnm, mk.2.1.2.2⟩ ⟨Nat.le_trans hB o12, ?_⟩)
    ⟨xPc.blind, ⟨cell, q1, by rw [q3]; rfl, by rw [q2]; exact (o7.1.1 ci _ hc).2.1⟩, xpre ok hH hF⟩ rfl hlen hl.1 hstk (lv_room hcat) hd ⟨Nat.le_trans hcs.1 o14, Nat.le_trans hcs.2 o15⟩) kk
  have h45 := mk.2.2.2
  show 8 + (M'.2.2.1 + 11) + 64 * d ≤ Rm.locals
  omega
end XR7
