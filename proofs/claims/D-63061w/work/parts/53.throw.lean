/-! throwing: contracts of methods that may throw, calls of them, new exceptions -/
def MetT (l : Launch) (y : MethodName) (ws : List Cond) (rm : Room) (Pc : Array Value → State → Prop) (Qc : Array Value → State → Outcome → State → Prop) (mc ms : Nat) (free : Addr → Prop) : Prop :=
  MetFree l y (headSpec ws rm) Pc (fun _ _ _ _ _ => True) (fun a st o t => Qc a st o t ∧ ∃ L, xFE st t L mc ms ∧ ∀ q ∈ L, free q.base)
theorem MetT.ofW {l : Launch} {y : MethodName} {ws : List Cond} {rm : Room} {Pc : Array Value → State → Prop} {Qc : Array Value → State → Outcome → State → Prop} {mc ms : Nat} {free : Addr → Prop} {cc : ByteArray} {maxL : Nat} {ret : Option FieldType} (hy : plainName y.cls = true)
    (his : ∀ args (s : State) m, (headSpec ws rm).pre.before args s = true → s.methodNamed? y = some m → ∃ meth c, s.vm.method? m = some meth ∧ meth.code = some c ∧ c.code = cc ∧ c.maxLocals = maxL ∧ meth.sig.returnType = ret ∧ meth.locks = false)
    (body : ∀ p e s m args below meth c s₁, BodyLoose p l y (headSpec ws rm) cc maxL ret e s m args below meth c s₁ → c.maxLocals = maxL → Pc args s →
      W p l e (headSpec ws rm).room s m args below meth c s.heap [] 0 0 (xMQ below Qc args s mc ms free) (entryFrame m args maxL)) : MetT l y ws rm Pc Qc mc ms free := by
  refine MetFree.of_bodyS (code := cc) (maxLocals := maxL) (ret := ret) hy his ?_
  intro p e s m args below meth c s₁ B hml hP _
  have hh0 : s₁.heap = s.heap := by rw [B.state]; rfl
  obtain ⟨t, a1, o, b1, b2, b3⟩ := body p e s m args below meth c s₁ B hml hP s₁ hh0 (Stand.of_body B)
  exact ⟨t, o, a1, b1, b2, ⟨b3.1, b3.2⟩⟩
/-- the contract of a method that may throw -/
def CtT (M : xM) (d C S : Nat) (av : List Value) (σ : xS) (R : xR) (Z : xZ) : Prop := ∀ (l : Launch) (N0 : Nat) (D : va_G) (dA : FieldType → ClassId), MetT l M.1 (xw M) (xrm d C S) (xPc l D dA N0 σ R av) (xQc D dA N0 Z) C S (xfr N0)
theorem CtT.of {M : xM} {d C S : Nat} {av : List Value} {σ : xS} {R : xR} {Z : xZ} (L : List (Option Value)) (hL : xarg M.2.2.1 av = L) (hy : plainName M.1.cls = true) (hlen : (lg_sl av).length ≤ M.2.2.1)
    (h : ∀ X, V X M (d, C, S, Z) σ R 0 0 0 L []) : CtT M d C S av σ R Z := by
  intro l N0 D dA
  refine MetT.ofW (cc := M.2.1) (maxL := M.2.2.1) (ret := M.2.2.2) hy (fun args s m h hn => ?_) ?_
  · obtain ⟨meth, c, h1, h2, h3, h4, h5, h6, -, -⟩ := Cond.code_spec hn (atoms_spec (ws := xw M) h _ List.mem_cons_self)
    exact ⟨meth, c, h1, h2, h3, h4, h5, h6⟩
  intro p e s m args below meth c s₁ B hml hv
  obtain ⟨rfl, hG, hH, hN⟩ := hv
  have hts := atoms_spec (ws := xw M) B.pre
  have hl := lv_entry av (n := M.2.2.1) hlen
  rw [lg_entry_eq]
  have hX := h (p, l, e, xrm d C S, s, m, av.toArray, below, meth, c, N0, D, dA)
  exact hX ⟨B.exec, B.bytes, hml, B.returns, findClass_of_methodNamed B.named, fun w hw => hts w (List.mem_cons_of_mem _ hw), hG, B.notSynchronized, hN, (name_of_methodNamed B.named B.method).1, Or.inl (B.noHandlers (hts _ List.mem_cons_self)), Nat.le_refl _, Nat.le_refl _, Nat.le_refl _, Nat.le_refl _⟩ s.heap [] _ hH xF.rf (hL ▸ xL.entry hl)
section XINTO
variable {p : Program} {l : Launch} {e : Env} {Rm : Room} {s : State} {m : MethodId} {args : Array Value} {below : List Frame} {meth : Method} {c : Code} {U : State} {locs : List Loc} {cells slots : Nat}
/-- a call ends: it comes back, or what it throws lies over the frame -/
theorem xinto (X : Stand p l e Rm s m args below meth c U locs cells slots) {y : MethodName} {ws : List Cond} {rm : Room} {Pc : Array Value → State → Prop} {Qc : Array Value → State → Outcome → State → Prop} {mc ms : Nat} {free : Addr → Prop} (hM : MetT l y ws rm Pc Qc mc ms free)
    {g : JFrame} (hg : g.method = m) (hsize : g.locals.size = c.maxLocals) {ig : Instr} {len : Nat} (hdg : decode c.code g.pc = .ok (ig, len)) {mk : MethodId} {a : Array Value} {methY : Method} {cY : Code} (hn : U.methodNamed? y = some mk) (hmY : U.vm.method? mk = some methY) (hcY : methY.code = some cY)
    (hframes : rm.frames + 1 ≤ Rm.frames) (hlocals : 2 * g.monitorRoom + (g.stack.map fun v => v.category).sum + (cY.maxLocals + 11) + rm.locals ≤ Rm.locals)
    (hws : ∀ w ∈ ws, w.before a U = true) (hini : (Cond.initialized y.cls).before a U = true) (hcs : cells + rm.cells ≤ Rm.cells ∧ slots + rm.slots ≤ Rm.slots) (hP : Pc a (U.calling g mk a)) :
    ∃ (o : Outcome) (t T' : State) (L : List Loc), Stand p l e Rm s m args below meth c T' (locs ++ L) (cells + mc) (slots + ms) ∧ (∀ q ∈ L, free q.base) ∧ T'.heap = t.heap ∧ T'.vm = t.vm ∧ Qc a (U.calling g mk a) o t ∧ Steps p.tables e below (doInvoke e (U.setTop g) [] mk a).1 t ∧
      ((∃ v, o = .returned v ∧ t = T'.setTop { g with pc := g.pc + len, stack := v.toList ++ g.stack }) ∨ ∃ x, o = .threw x ∧ t = (T'.setTop g).pushFrame (.throwing x)) := by
  obtain ⟨kY, hkY, -⟩ := className_of_methodNamed hn
  have hinitY : kY.init = .initialized := Cond.initialized_spec (findClass_of_methodNamed hn) hkY hini
  have h : At U g.method c below := by rw [hg]; exact X.here
  have happ : (headSpec ws rm).appliesLoose y e.platform (U.calling g mk a) = true :=
    Spec.appliesLoose_calling (g := g) h hdg hn hkY hinitY
      (X.room_calling (g := g) (R' := rm) hsize hmY hcY hframes hlocals hcs.1 hcs.2) (atoms_intro hws)
  obtain ⟨mid, hmid⟩ := h.above
  have hfr : (U.setTop g).frames = (.java g :: mid) ++ below := by rw [State.frames_setTop' g h.top, hmid]; rfl
  obtain ⟨o, t, hsteps, -, hend, hq, L, hfe, hL⟩ := Steps.callFree hM p X.admits X.cas X.clock (acts := []) hfr happ hP trivial
  rw [State.frames_setTop' g h.top, X.tail] at hend
  cases o with
  | returned v =>
    obtain ⟨T', X', -, -, ht⟩ := X.outOf hg hdg hend hfe.1 hfe.2
    exact ⟨_, t, T', L, X', hL, by rw [ht]; exact (Stand.throwing_heap T' { g with pc := g.pc + len, stack := v.toList ++ g.stack } 0).symm, by rw [ht]; exact (Stand.throwing_vm T' { g with pc := g.pc + len, stack := v.toList ++ g.stack } 0).symm, hq, hsteps, Or.inl ⟨v, rfl, ht⟩⟩
  | threw x =>
    obtain ⟨T', X', -, -, ht⟩ := X.outOfThrown hg hend hfe.1 hfe.2
    exact ⟨_, t, T', L, X', hL, by rw [ht]; exact (Stand.throwing_heap T' g x).symm, by rw [ht]; exact (Stand.throwing_vm T' g x).symm, hq, hsteps, Or.inr ⟨x, rfl, ht⟩⟩
end XINTO
section XTHROW
variable {X : xCtx} {M : xM} {B : xB} {σ : xS} {R : xR} {cn sn pc : Nat} {L : List (Option Value)} {st stk : List Value}
/-- x is being thrown at pc -/
def Vt (X : xCtx) (M : xM) (B : xB) (σ : xS) (R : xR) (cn sn pc : Nat) (L : List (Option Value)) (x : Addr) : Prop := match X with
  | (p, l, e, Rm, s, m, args, below, meth, c, N0, D, dA) => xOk (p, l, e, Rm, s, m, args, below, meth, c, N0, D, dA) M B → ∀ (H : Heap) (locs : List Loc) (ls : Array Slot) (st : List Value), xH D dA N0 σ R H → xF N0 s H locs → xL ls M.2.2.1 L →
    ∀ T : State, T.heap = H → Stand p l e Rm s m args below meth c T locs cn sn → ∃ t, Steps p.tables e below ((T.setTop (F0 m pc ls st)).pushFrame (.throwing x)) t ∧ xMQ below (xQc D dA N0 B.2.2.2) args s B.2.1 B.2.2.1 (xfr N0) t
theorem xEt.out {c : Code} (h : xEt M c) (hno : M.1.cls ≠ "RepairDeskLaw") (q : Nat) : ∀ x ∈ c.exceptionTable.toList, covers x q = false := by
  rcases h with h | ⟨r, hr, h1, -⟩
  · intro x hx
    have h0 : c.exceptionTable.size = 0 := by simpa [Array.isEmpty] using h
    have h1 : c.exceptionTable.toList = [] := List.eq_nil_of_length_eq_zero (by simpa using h0)
    rw [h1] at hx
    cases hx
  · refine absurd ?_ hno
    rw [← h1]
    simp only [xwr, List.mem_cons, List.not_mem_nil, or_false] at hr
    rcases hr with rfl | rfl | rfl | rfl | rfl | rfl | rfl <;> rfl
theorem Vt.leave {x : Addr} (hno : M.1.cls ≠ "RepairDeskLaw") (hc : cn ≤ B.2.1) (hs : sn ≤ B.2.2.1) (hz : B.2.2.2 (.threw x) σ R) : Vt X M B σ R cn sn pc L x := by
  obtain ⟨p, l, e, Rm, s, m, args, below, meth, c, N0, D, dA⟩ := X
  intro ok H locs ls st hH hF hl T hT X
  obtain ⟨o1, o2, o3, o4, o5, o6, o7, o8, o9, o10, o11, o12, o13, o14, o15⟩ := ok
  obtain ⟨h1, h2, h3, h4, h5⟩ := X.leaveThrown x (g := F0 m pc ls st) rfl rfl rfl (xEt.out o11 hno pc) o8
  exact ⟨_, h1, .threw x, h2, h3, ⟨⟨σ, R, hz, by rw [← hT] at hH; exact hH⟩, by rw [← hT] at hF; exact hF.1, fun q hq => by rw [← hT] at hF; exact hF.2.1 q hq⟩, locs, ⟨h4, h5.weaken (fun _ h _ => h) hc hs⟩, hF.2.2⟩
/-- what comes of a call that may throw -/
theorem xbackT {p : Program} {l : Launch} {e : Env} {Rm : Room} {s : State} {m : MethodId} {args : Array Value} {below : List Frame} {meth : Method} {c : Code} {N0 : Nat} {D : va_G} {dA : FieldType → ClassId} {mc ms : Nat} {Z : xZ} {H : Heap} {locs : List Loc} {ls : Array Slot} {T : State}
    (ok : xOk (p, l, e, Rm, s, m, args, below, meth, c, N0, D, dA) M B) (hF : xF N0 s H locs) (hl : xL ls M.2.2.1 L) {o : Outcome} {t T' st₀ : State} {L1 : List Loc} (h0 : st₀.heap = H) (X' : Stand p l e Rm s m args below meth c T' (locs ++ L1) (cn + mc) (sn + ms)) (hL : ∀ q ∈ L1, xfr N0 q.base) (e1 : T'.heap = t.heap)
    {av : Array Value} (hq : xQc D dA N0 Z av st₀ o t) (hst : ∀ tg, Steps p.tables e below t tg → Steps p.tables e below (T.setTop (F0 m pc ls stk)) tg)
    (ho : (∃ v, o = .returned v ∧ t = T'.setTop (F0 m (pc + 3) ls (v.toList ++ st))) ∨ ∃ x, o = .threw x ∧ t = (T'.setTop (F0 m pc ls st)).pushFrame (.throwing x))
    (kk : ∀ r σ' R', Z (.returned r) σ' R' → V (p, l, e, Rm, s, m, args, below, meth, c, N0, D, dA) M B σ' R' (cn + mc) (sn + ms) (pc + 3) L (r.toList ++ st))
    (kt : ∀ x σ' R', Z (.threw x) σ' R' → Vt (p, l, e, Rm, s, m, args, below, meth, c, N0, D, dA) M B σ' R' (cn + mc) (sn + ms) pc L x) :
    ∃ t, Steps p.tables e below (T.setTop (F0 m pc ls stk)) t ∧ xMQ below (xQc D dA N0 B.2.2.2) args s B.2.1 B.2.2.1 (xfr N0) t := by
  obtain ⟨⟨σ', R', hZ, hH'⟩, hz, hk⟩ := hq
  rw [h0] at hz hk
  have hF' : xF N0 s T'.heap (locs ++ L1) := ⟨Nat.le_trans hF.1 (by rw [e1]; exact hz), fun q h1 => by rw [e1, hk q h1]; exact hF.2.1 q h1, fun q hq => by
      rcases List.mem_append.mp hq with h | h
      · exact hF.2.2 q h
      · exact hL q h⟩
  rcases ho with ⟨v, rfl, ht⟩ | ⟨x, rfl, ht⟩
  · obtain ⟨t2, a1, b1⟩ := kk v σ' R' hZ ok T'.heap (locs ++ L1) ls (by rw [e1]; exact hH') hF' hl T' rfl X'
    exact ⟨t2, hst t2 (ht ▸ a1), b1⟩
  · obtain ⟨t2, a1, b1⟩ := kt x σ' R' hZ ok T'.heap (locs ++ L1) ls st (by rw [e1]; exact hH') hF' hl T' rfl X'
    exact ⟨t2, hst t2 (ht ▸ a1), b1⟩
theorem x_callST {M' : xM} {d mc ms nargs idx : Nat} {As : List Value} {Z : xZ} (ct : CtT M' d mc ms As σ R Z) (cs : xCs M.1.cls idx M' nargs)
    (hlen : As.length = nargs) (hstk : stk = As.reverse ++ st) (hcat : (st.map fun v => v.category).sum ≤ 8) (hd : decode M.2.1 pc = .ok (.invokestatic idx, 3))
    (hB : d + 1 ≤ B.1) (hcs : cn + mc ≤ B.2.1 ∧ sn + ms ≤ B.2.2.1)
    (kk : ∀ r σ' R', Z (.returned r) σ' R' → V X M B σ' R' (cn + mc) (sn + ms) (pc + 3) L (r.toList ++ st)) (kt : ∀ x σ' R', Z (.threw x) σ' R' → Vt X M B σ' R' (cn + mc) (sn + ms) pc L x) : V X M B σ R cn sn pc L stk := by
  obtain ⟨p, l, e, Rm, s, m, args, below, meth, c, N0, D, dA⟩ := X
  intro ok H locs ls hH hF hl T hT X
  have ok' := ok
  obtain ⟨o1, o2, o3, o4, o5, o6, o7, o8, o9, o10, o11, o12, o13, o14, o15⟩ := ok'
  obtain ⟨mk, hlink, hstat⟩ := cs
  obtain ⟨mk2, hnamed⟩ := Cond.code_named (o6 _ mk.1)
  obtain ⟨methM, cM, hmethM, hcodeM, -, hmaxM, -, -, -, hsigM⟩ := Cond.code_spec hnamed (o6 _ mk.1)
  have hstatic : methM.isStatic = true := Cond.static_spec hnamed hmethM (o6 _ hstat)
  obtain ⟨kP, hkP, -⟩ := className_of_methodNamed hnamed
  have hinitP : kP.init = .initialized := Cond.initialized_spec (findClass_of_methodNamed hnamed) hkP (o6 _ mk.2.2.1)
  have hsl : ∀ sig, parseMethodDescriptor M'.1.desc = some sig → As.length = sig.parameters.length := fun sig h => by
    have h2 := mk.2.1.2.2
    rw [h] at h2
    exact hlen.trans (Option.some.inj h2).symm
  obtain ⟨vm₁, X₁, hstep₁⟩ := X.invokestatic o1 o5 (o6 _ hlink) hnamed hmethM hstatic hkP hinitP ⟨mk.2.1.1, mk.2.1.2.1⟩ (g := F0 m pc ls stk) rfl (argsL := As) (rest := st) (hsl _ hsigM) hstk (by rw [o2]; exact hd)
  have hW := X₁.warmed
  have hm1 : (T.setVm vm₁).vm.method? mk2 = some methM := by rw [hW.alike.method?]; exact hmethM
  have h45 := mk.2.2.2
  obtain ⟨o, t, T', L1, X', hL, e1, e2, hq, hsteps, ho⟩ := xinto X₁ (ct l N0 D dA) (g := F0 m pc ls st) rfl (by rw [o3]; exact hl.1) (ig := .invokestatic idx) (len := 3) (by rw [o2]; exact hd) (mk := mk2) (a := As.toArray) (X₁.named hnamed) hm1 hcodeM (Nat.le_trans hB o12)
    (by show 2 * 0 + _ + (cM.maxLocals + 11) + 64 * d ≤ _; rw [hmaxM]; have : (st.map fun v => v.category).sum ≤ 8 := hcat; show 2 * 0 + (st.map fun v => v.category).sum + (M'.2.2.1 + 11) + 64 * d ≤ _; omega)
    (fun w hw => pay_in o6 (xgoodIn mk (ws := []) (fun _ h => by cases h)) w hw _ _ hW) (word_at hW (xgood mk.2.2.1).2 (o6 _ mk.2.2.1)) ⟨Nat.le_trans hcs.1 o14, Nat.le_trans hcs.2 o15⟩ (xPc.blind _ _ _ _ (xpre ok hH hF (T.setVm vm₁) hT hW))
  exact xbackT ok hF hl (by show T.heap = H; exact hT) X' hL e1 hq (fun tg h => hstep₁ _ fun acts => by rw [doInvoke_state]; exact hsteps.trans h) ho kk kt
theorem x_callVT {M' : xM} {d mc ms nargs idx a : Nat} {As : List Value} {Z : xZ} (K : Int) (ct : CtT M' d mc ms (.ref a :: As) σ R Z) (cs : xCv M.1.cls idx M' nargs) (hrc : xRc σ K a M'.1.cls)
    (hlen : As.length = nargs) (hstk : stk = As.reverse ++ .ref a :: st) (hcat : (st.map fun v => v.category).sum ≤ 8) (hd : decode M.2.1 pc = .ok (.invokevirtual idx, 3))
    (hB : d + 1 ≤ B.1) (hcs : cn + mc ≤ B.2.1 ∧ sn + ms ≤ B.2.2.1)
    (kk : ∀ r σ' R', Z (.returned r) σ' R' → V X M B σ' R' (cn + mc) (sn + ms) (pc + 3) L (r.toList ++ st)) (kt : ∀ x σ' R', Z (.threw x) σ' R' → Vt X M B σ' R' (cn + mc) (sn + ms) pc L x) : V X M B σ R cn sn pc L stk := by
  obtain ⟨p, l, e, Rm, s, m, args, below, meth, c, N0, D, dA⟩ := X
  intro ok H locs ls hH hF hl T hT X
  have ok' := ok
  obtain ⟨o1, o2, o3, o4, o5, o6, o7, o8, o9, o10, o11, o12, o13, o14, o15⟩ := ok'
  obtain ⟨mk, hlink, hinst, hsel⟩ := cs
  obtain ⟨ha, tt, n, ci, TT, N, hs, h0, hc⟩ := hrc
  obtain ⟨hN, cellB, q1, q2, q3, -⟩ := xOb hH hs h0.1 h0.2.1 h0.2.2 hc
  rw [ha] at q1 hN
  obtain ⟨mk2, methM, hnamed, hmethM, hstM, habM⟩ := Cond.instanceMethod_spec (o6 _ hinst)
  obtain ⟨methM', cM, hmethM', hcodeM, -, hmaxM, -, -, -, hsigM⟩ := Cond.code_spec hnamed (o6 _ mk.1)
  cases hmethM.symm.trans hmethM'
  obtain ⟨c2, r2, m2, w1, w2, w3, w4, kP, hkP, hkPi⟩ := Cond.selects_spec (o6 _ hsel)
  have hcls : s.vm.findClass M'.1.cls = some cellB.cls := by rw [q2]; exact (o7.1.1 ci _ hc).2.1
  cases hcls.symm.trans w1
  cases (State.methodFound?_of_named hnamed ⟨mk.2.1.1, mk.2.1.2.1⟩).symm.trans w2
  cases hnamed.symm.trans w3
  have hselP : selectMethod e.platform s.vm cellB.cls mk2 = .method mk2 := by rw [Launch.admits_selectMethod X.admits]; exact w4
  have hsl : ∀ sig, parseMethodDescriptor M'.1.desc = some sig → As.length = sig.parameters.length := fun sig h => by
    have h2 := mk.2.1.2.2
    rw [h] at h2
    exact hlen.trans (Option.some.inj h2).symm
  obtain ⟨vm₁, X₁, hstep₁⟩ := X.invokevirtual o1 o5 (o6 _ hlink) hnamed hmethM hstM hkP hkPi ⟨mk.2.1.1, mk.2.1.2.1⟩ (a := a) (cell := cellB) (by rw [hT]; exact q1)
    (fun z h => by rw [q3] at h; cases h) hselP hmethM habM hkP hkPi (g := F0 m pc ls stk) rfl (argsL := As) (rest := st) (hsl _ hsigM) hstk (by rw [o2]; exact hd)
  have hW := X₁.warmed
  have hm1 : (T.setVm vm₁).vm.method? mk2 = some methM := by rw [hW.alike.method?]; exact hmethM
  have h45 := mk.2.2.2
  obtain ⟨o, t, T', L1, X', hL, e1, e2, hq, hsteps, ho⟩ := xinto X₁ (ct l N0 D dA) (g := F0 m pc ls st) rfl (by rw [o3]; exact hl.1) (ig := .invokevirtual idx) (len := 3) (by rw [o2]; exact hd) (mk := mk2) (a := (Value.ref a :: As).toArray) (X₁.named hnamed) hm1 hcodeM (Nat.le_trans hB o12)
    (by show 2 * 0 + _ + (cM.maxLocals + 11) + 64 * d ≤ _; rw [hmaxM]; have : (st.map fun v => v.category).sum ≤ 8 := hcat; show 2 * 0 + (st.map fun v => v.category).sum + (M'.2.2.1 + 11) + 64 * d ≤ _; omega)
    (fun w hw => pay_in o6 (xgoodIn mk (ws := []) (fun _ h => by cases h)) w hw _ _ hW) (word_at hW (xgood mk.2.2.1).2 (o6 _ mk.2.2.1)) ⟨Nat.le_trans hcs.1 o14, Nat.le_trans hcs.2 o15⟩ (xPc.blind _ _ _ _ (xpre ok hH hF (T.setVm vm₁) hT hW))
  exact xbackT ok hF hl (by show T.heap = H; exact hT) X' hL e1 hq (fun tg h => hstep₁ _ fun acts => by rw [doInvoke_state]; exact hsteps.trans h) ho kk kt
end XTHROW
