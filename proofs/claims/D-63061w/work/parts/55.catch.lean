/-! catching: the law's seven small methods -/
section XGO
variable {e : Env} {s st : State} {f : JFrame} {a : Addr} {x : ExceptionTableEntry} {t : List ExceptionTableEntry} {Q : Handler → Pre} {E : CtlPost} {d : Bool} {acts : List Action}
theorem xgo_cold {c : ClassId} {vm' : Vm} (hx : covers x f.pc = true) (h0 : x.catchType ≠ 0) (hg : (Jvm.resolveClass f.method.cls x.catchType).Gives e.toSetting st.vm (.ok c) vm') (hr : vm'.classReady f.method.cls x.catchType c) (hsz : vm'.classes.size ≤ st.vm.classes.size) :
    wp (findHandler.go f a (x :: t)) Q E e d acts st ↔ wp (findHandler.go f a (x :: t)) Q E e d acts (st.setVm vm') := by
  simp only [covers] at hx
  obtain ⟨ha, ht⟩ := hg.op (op := VmOp.resolveClass f.method.cls x.catchType) rfl
  obtain ⟨k, hkd, hres⟩ := hr
  have hm := resolveClass_memo e (vm := vm') hkd hres
  simp [findHandler.go, hx, h0, ha, ht, hm, hsz, VmOp.dirties, VmOp.acts]
  exact Iff.rfl
theorem xgo_class {c : ClassId} {cell : Cell} (hW : s.WarmedH st.vm) (hl : s.vm.ClassLinks e.platform f.method.cls x.catchType c) (hx : covers x f.pc = true) (h0 : x.catchType ≠ 0) (hcell : st.heap[a]? = some cell) (hobj : ∀ k, cell.vm ≠ .statics k) (hk : ∃ k, s.vm.classes[cell.cls]? = some k) (hc : ∃ k, s.vm.classes[c]? = some k) :
    ∃ vm', s.WarmedH vm' ∧ ∀ (Q : Handler → Pre) (E : CtlPost) (d : Bool) (acts : List Action), wp (findHandler.go f a (x :: t)) Q E e d acts st ↔ if s.vm.assignable cell.cls c = true then Q (.found x.handlerPc) d acts (st.setVm vm') else wp (findHandler.go f a t) Q E e d acts (st.setVm vm') := by
  obtain ⟨hg, hW', hr⟩ := State.classEntry (e := e) hW hl
  refine ⟨_, hW', fun Q E d acts => ?_⟩
  rw [xgo_cold hx h0 hg hr (by rw [hW'.2.1, hW.2.1]; exact Nat.le_refl _)]
  obtain ⟨k1, hk1⟩ := hk
  obtain ⟨k2, hk2⟩ := hc
  obtain ⟨k1', hk1', -⟩ := hW'.alike.2.2 _ _ hk1
  obtain ⟨k2', hk2', -⟩ := hW'.alike.2.2 _ _ hk2
  rw [W.findHandler_go_class (s := st.setVm (st.vm.noted f.method.cls x.catchType (.cls c))) hx h0 hr (cell := cell) hcell hobj ⟨k1', hk1'⟩ ⟨k2', hk2'⟩]
  rw [show (st.setVm (st.vm.noted f.method.cls x.catchType (.cls c))).vm.assignable cell.cls c = s.vm.assignable cell.cls c from hW'.alike.assignable _ _]
/-- the search ends at the entry h: those ahead of it are passed -/
theorem xgo {cell : Cell} (hobj : ∀ k, cell.vm ≠ .statics k) (hk : ∃ k, s.vm.classes[cell.cls]? = some k) (pre : List ExceptionTableEntry) (h : ExceptionTableEntry) (post : List ExceptionTableEntry)
    (hpre : ∀ y ∈ pre, covers y f.pc = true ∧ y.catchType ≠ 0 ∧ ∃ c, s.vm.ClassLinks e.platform f.method.cls y.catchType c ∧ (∃ k, s.vm.classes[c]? = some k) ∧ s.vm.assignable cell.cls c = false)
    (hh : covers h f.pc = true ∧ h.catchType ≠ 0 ∧ ∃ c, s.vm.ClassLinks e.platform f.method.cls h.catchType c ∧ (∃ k, s.vm.classes[c]? = some k) ∧ s.vm.assignable cell.cls c = true) :
    ∀ st : State, s.WarmedH st.vm → st.heap[a]? = some cell → ∃ vm', s.WarmedH vm' ∧ ∀ (Q : Handler → Pre) (E : CtlPost) (d : Bool) (acts : List Action), wp (findHandler.go f a (pre ++ h :: post)) Q E e d acts st ↔ Q (.found h.handlerPc) d acts (st.setVm vm') := by
  induction pre with
  | nil =>
    intro st hW hcell
    obtain ⟨h1, h2, c, h3, h4, h5⟩ := hh
    obtain ⟨vm', w1, w2⟩ := xgo_class (t := post) hW h3 h1 h2 hcell hobj hk h4
    refine ⟨vm', w1, fun Q E d acts => ?_⟩
    rw [List.nil_append, w2, if_pos h5]
  | cons y r ih =>
    intro st hW hcell
    obtain ⟨h1, h2, c, h3, h4, h5⟩ := hpre y List.mem_cons_self
    obtain ⟨vm', w1, w2⟩ := xgo_class (t := r ++ h :: post) hW h3 h1 h2 hcell hobj hk h4
    obtain ⟨vm2, w3, w4⟩ := ih (fun z hz => hpre z (List.mem_cons_of_mem _ hz)) (st.setVm vm') w1 hcell
    refine ⟨vm2, w3, fun Q E d acts => ?_⟩
    rw [List.cons_append, w2, if_neg (by rw [h5]; decide), w4]
    rfl
end XGO
/-- a find that leaves the tables warmer -/
theorem xcaught {e : Env} {tb : Tables} {s target : State} {g : JFrame} {c : Code} {below : List Frame} {a : Addr} {pc : Nat} {vm' : Vm} (h : At s g.method c below)
    (hfind : ∀ (Q : Handler → Pre) (E : CtlPost) (d : Bool) (acts : List Action), wp (findHandler g a) Q E e d acts ((s.setTop g).pushFrame (.throwing a)) ↔ Q (.found pc) d acts (((s.setTop g).pushFrame (.throwing a)).setVm vm'))
    (hrest : Steps tb e below ((s.setVm vm').setTop { g with pc := pc, stack := [.ref a] }) target) : Steps tb e below ((s.setTop g).pushFrame (.throwing a)) target := by
  obtain ⟨hgo, hw⟩ := h.throwing a
  refine Steps.head hgo hw ?_
  have hstep : (stepThrowing e ((s.setTop g).pushFrame (.throwing a)) a (.java g :: s.frames.tail)).Is ((((s.setTop g).pushFrame (.throwing a)).setVm vm').setFrames (.java { g with pc := pc, stack := [.ref a] } :: s.frames.tail)) [] := by
    simp only [stepThrowing, searchFrame, vmDo]
    generalize hr : Sem.go _ e false [] ((s.setTop g).pushFrame (.throwing a)) = res
    obtain ⟨as, rfl, ha⟩ := Sem.eq_ok_of hr (a := Handler.found pc) (s' := ((s.setTop g).pushFrame (.throwing a)).setVm vm') (acts' := []) (by simp [hfind _ _ _ _])
    exact ⟨rfl, ha⟩
  rw [stepThread_throwing (frames_entered h.top _), hstep.1]
  obtain ⟨g₀, hg⟩ := Option.isSome_iff_exists.mp h.top
  obtain ⟨r, hr⟩ := State.topJava?_eq_some.mp hg
  have hr' : (s.setVm vm').frames = .java g₀ :: r := hr
  rw [State.setTop_of_frames _ hr'] at hrest
  rw [hr, State.pushFrame, State.setTop_of_frames _ hr]
  show Steps tb e below ((((s.setFrames _).setFrames _).setFrames _).setVm vm') target
  rw [State.setFrames_setFrames, State.setFrames_setFrames]
  exact hrest
/-- the context's exception table -/
def xTbl (X : xCtx) (et : List (Nat × Nat × Nat × Nat)) : Prop := match X with
  | (_, _, _, _, _, _, _, _, _, c, _, _, _) => (c.exceptionTable.toList.map fun x => (x.startPc, x.endPc, x.handlerPc, x.catchType)) = et
abbrev xwW (M : xM) (et : List (Nat × Nat × Nat × Nat)) : List Cond := Cond.codeWith M.1 M.2.1 M.2.2.1 M.2.2.2 et :: xtb
/-- the contract of a method that catches -/
def CtW (M : xM) (et : List (Nat × Nat × Nat × Nat)) (d C S : Nat) (av : List Value) (σ : xS) (R : xR) (Z : xZ) : Prop := ∀ (l : Launch) (N0 : Nat) (D : va_G) (dA : FieldType → ClassId), MetT l M.1 (xwW M et) (xrm d C S) (xPc l D dA N0 σ R av) (xQc D dA N0 Z) C S (xfr N0)
theorem CtW.of {M : xM} {et : List (Nat × Nat × Nat × Nat)} {d C S : Nat} {av : List Value} {σ : xS} {R : xR} {Z : xZ} (hx : (M.1, et) ∈ xwr) (L : List (Option Value)) (hL : xarg M.2.2.1 av = L) (hy : plainName M.1.cls = true) (hlen : (lg_sl av).length ≤ M.2.2.1)
    (h : ∀ X, xTbl X et → V X M (d, C, S, Z) σ R 0 0 0 L []) : CtW M et d C S av σ R Z := by
  intro l N0 D dA
  refine MetT.ofW (cc := M.2.1) (maxL := M.2.2.1) (ret := M.2.2.2) hy (fun args s m h hn => ?_) ?_
  · obtain ⟨m2, meth, c, h0, h1, h2, h3, h4, h5, h6, h7, -⟩ := Cond.codeWith_spec (atoms_spec (ws := xwW M et) h _ List.mem_cons_self)
    cases hn.symm.trans h0
    exact ⟨meth, c, h1, h2, h3, h4, h6, h7⟩
  intro p e s m args below meth c s₁ B hml hv
  obtain ⟨rfl, hG, hH, hN⟩ := hv
  have hts := atoms_spec (ws := xwW M et) B.pre
  have hl := lv_entry av (n := M.2.2.1) hlen
  rw [lg_entry_eq]
  obtain ⟨m2, meth2, c2, g0, g1, g2, g3, g4, g5, g6, g7, -⟩ := Cond.codeWith_spec (hts _ List.mem_cons_self)
  cases B.named.symm.trans g0
  cases B.method.symm.trans g1
  cases (Stand.of_body B).code.symm.trans g2
  have hX := h (p, l, e, xrm d C S, s, m, av.toArray, below, meth, c, N0, D, dA) g5
  exact hX ⟨B.exec, B.bytes, hml, B.returns, findClass_of_methodNamed B.named, fun w hw => hts w (List.mem_cons_of_mem _ hw), hG, B.notSynchronized, hN, (name_of_methodNamed B.named B.method).1, Or.inr ⟨_, hx, rfl, g5⟩, Nat.le_refl _, Nat.le_refl _, Nat.le_refl _, Nat.le_refl _⟩ s.heap [] _ hH xF.rf (hL ▸ xL.entry hl)
section XCATCH
variable {X : xCtx} {M : xM} {B : xB} {σ : xS} {R : xR} {cn sn pc : Nat} {L : List (Option Value)} {st stk : List Value}
theorem xmapApp {α β : Type} {f : α → β} {l : List α} {p : List β} {h : β} {q : List β} (e : l.map f = p ++ h :: q) : ∃ p' h' q', l = p' ++ h' :: q' ∧ p'.map f = p ∧ f h' = h := by
  obtain ⟨l1, l2, e1, e2, e3⟩ := List.map_eq_append_iff.mp e
  obtain ⟨h', q', e4, e5, e6⟩ := List.map_eq_cons_iff.mp e3
  exact ⟨l1, h', q', by rw [e1, e4], e2, e5⟩
theorem Vt.catch {x : Addr} (k : Int) {t n ci N : Nat} {C : String} {T : u_T} {pre post : List (Nat × Nat × Nat × Nat)} {h : Nat × Nat × Nat × Nat} (hX : xTbl X (pre ++ h :: post)) (hs : (σ k).2 = (t, n)) (ha : (σ k).1 = x) (h0 : t ≠ 0 ∧ t < 32 ∧ (t - 1) % 16 = ci) (hc : xcl[ci]? = some (C, T, N))
    (hpre : ∀ y ∈ pre, (y.1 ≤ pc ∧ pc < y.2.1) ∧ y.2.2.2 ≠ 0 ∧ ∃ Cy, Cond.classLink M.1.cls y.2.2.2 Cy ∈ xtb ∧ Cond.not (.castable C Cy) ∈ xleaves narrow_1) (hh : (h.1 ≤ pc ∧ pc < h.2.1) ∧ h.2.2.2 ≠ 0 ∧ Cond.classLink M.1.cls h.2.2.2 C ∈ xtb ∧ Cond.castable C C ∈ tables_1)
    (kk : V X M B σ R cn sn h.2.2.1 L [.ref x]) : Vt X M B σ R cn sn pc L x := by
  obtain ⟨p, l, e, Rm, s, m, args, below, meth, c, N0, D, dA⟩ := X
  intro ok H locs ls st hH hF hl T0 hT0 X0
  have ok' := ok
  obtain ⟨o1, o2, o3, o4, o5, o6, o7, o8, o9, o10, o11, o12, o13, o14, o15⟩ := ok'
  obtain ⟨-, cell, q1, q2, q3, -⟩ := xOb hH hs h0.1 h0.2.1 h0.2.2 hc
  rw [ha] at q1
  have hKn := o7.1.1 ci _ hc
  have hpl : e.platform.magicAccessors = ({} : Platform).magicAccessors := by rw [X0.admits.platform]
  obtain ⟨p', h', q', e1, e2, e3⟩ := xmapApp hX
  have hcls : s.vm.findClass C = some cell.cls := by rw [q2]; exact hKn.2.1
  obtain ⟨kc, hkc⟩ := Vm.classAt_of_findClass hcls
  obtain ⟨vm', w1, w2⟩ := xgo (e := e) (s := s) (f := F0 m pc ls st) (a := x) (cell := cell) (fun k h => by rw [q3] at h; cases h) ⟨kc, hkc⟩ p' h' q' (fun y hy => by
      obtain ⟨⟨c1, c2⟩, c3, Cy, c4, c5⟩ := hpre _ (e2 ▸ List.mem_map_of_mem hy)
      obtain ⟨cy, d1, d2⟩ := Cond.classLink_spec o5 (o6 _ c4) e.platform hpl
      refine ⟨by simp only [covers, Bool.and_eq_true, decide_eq_true_eq]; exact ⟨c1, c2⟩, c3, cy, d2, Vm.classAt_of_findClass d1, ?_⟩
      have h8 : va_Nw (.not (.castable C Cy)) s := o7.2.2.2.2.2.2.2.2.2 _ (List.mem_append_right _ c5) rfl
      simp only [va_Nw, Cond.before, Cond.holds, Cond.value, hcls, d1] at h8
      simpa using h8) (by
      obtain ⟨⟨c1, c2⟩, c3, c4, c5⟩ := hh
      rw [← e3] at c1 c2 c3 c4
      obtain ⟨cy, d1, d2⟩ := Cond.classLink_spec o5 (o6 _ c4) e.platform hpl
      refine ⟨by simp only [covers, Bool.and_eq_true, decide_eq_true_eq]; exact ⟨c1, c2⟩, c3, cy, d2, Vm.classAt_of_findClass d1, ?_⟩
      obtain ⟨c0, t1, f1, f2, f3⟩ := Cond.castable_spec (va_Nw.use (A := args) rfl (o7.2.2.2.2.2.2.2.2.2 (.castable C C) (List.mem_append_left _ c5) rfl))
      cases hcls.symm.trans f1
      cases d1.symm.trans f2
      exact f3) ((T0.setTop (F0 m pc ls st)).pushFrame (.throwing x)) (by rw [Stand.throwing_vm]; exact X0.warmed) (by rw [Stand.throwing_heap, hT0]; exact q1)
  have X1 := X0.noted w1
  obtain ⟨t2, a1, b1⟩ := kk ok H locs ls hH hF hl (T0.setVm vm') hT0 X1
  refine ⟨t2, xcaught (g := F0 m pc ls st) (pc := h.2.2.1) (vm' := vm') X0.here (fun Q E d acts => ?_) a1, b1⟩
  rw [W.findHandler_eq (by rw [Stand.throwing_vm]; exact X0.method') X0.code, e1, w2 Q E d acts, ← e3]
theorem x_callSW {M' : xM} {et : List (Nat × Nat × Nat × Nat)} {d mc ms nargs idx : Nat} {As : List Value} {Z : xZ} (ct : CtW M' et d mc ms As σ R Z) (hco : Cond.codeWith M'.1 M'.2.1 M'.2.2.1 M'.2.2.2 et ∈ xtb) (hmk : M'.1.cls ≠ "java/lang/invoke/MethodHandle" ∧ M'.1.cls ≠ "java/lang/invoke/VarHandle" ∧ (parseMethodDescriptor M'.1.desc).map (fun d => d.parameters.length) = some nargs) (hini : Cond.initialized M'.1.cls ∈ xtb) (h45 : M'.2.2.1 ≤ 45) (hlink : Cond.methodLink M.1.cls idx M'.1 ∈ xtb) (hstat : Cond.static M'.1 ∈ xtb)
    (hlen : As.length = nargs) (hstk : stk = As.reverse ++ st) (hcat : (st.map fun v => v.category).sum ≤ 8) (hd : decode M.2.1 pc = .ok (.invokestatic idx, 3)) (hno : ∀ x σ' R', ¬ Z (.threw x) σ' R')
    (hB : d + 1 ≤ B.1) (hcs : cn + mc ≤ B.2.1 ∧ sn + ms ≤ B.2.2.1)
    (kk : ∀ r σ' R', Z (.returned r) σ' R' → V X M B σ' R' (cn + mc) (sn + ms) (pc + 3) L (r.toList ++ st)) : V X M B σ R cn sn pc L stk := by
  obtain ⟨p, l, e, Rm, s, m, args, below, meth, c, N0, D, dA⟩ := X
  intro ok H locs ls hH hF hl T hT X
  have ok' := ok
  obtain ⟨o1, o2, o3, o4, o5, o6, o7, o8, o9, o10, o11, o12, o13, o14, o15⟩ := ok'
  obtain ⟨mk2, methM, cM, hnamed, hmethM, hcodeM, -, hmaxM, -, -, -, hsigM⟩ := Cond.codeWith_spec (o6 _ hco)
  have hstatic : methM.isStatic = true := Cond.static_spec hnamed hmethM (o6 _ hstat)
  obtain ⟨kP, hkP, -⟩ := className_of_methodNamed hnamed
  have hinitP : kP.init = .initialized := Cond.initialized_spec (findClass_of_methodNamed hnamed) hkP (o6 _ hini)
  have hsl : ∀ sig, parseMethodDescriptor M'.1.desc = some sig → As.length = sig.parameters.length := fun sig h => by
    have h2 := hmk.2.2
    rw [h] at h2
    exact hlen.trans (Option.some.inj h2).symm
  obtain ⟨vm₁, X₁, hstep₁⟩ := X.invokestatic o1 o5 (o6 _ hlink) hnamed hmethM hstatic hkP hinitP ⟨hmk.1, hmk.2.1⟩ (g := F0 m pc ls stk) rfl (argsL := As) (rest := st) (hsl _ hsigM) hstk (by rw [o2]; exact hd)
  have hW := X₁.warmed
  have hm1 : (T.setVm vm₁).vm.method? mk2 = some methM := by rw [hW.alike.method?]; exact hmethM
  obtain ⟨o, t, T', L1, X', hL, e1, e2, hq, hsteps, ho⟩ := xinto X₁ (ct l N0 D dA) (g := F0 m pc ls st) rfl (by rw [o3]; exact hl.1) (ig := .invokestatic idx) (len := 3) (by rw [o2]; exact hd) (mk := mk2) (a := As.toArray) (X₁.named hnamed) hm1 hcodeM (Nat.le_trans hB o12)
    (by show 2 * 0 + _ + (cM.maxLocals + 11) + 64 * d ≤ _; rw [hmaxM]; have : (st.map fun v => v.category).sum ≤ 8 := hcat; show 2 * 0 + (st.map fun v => v.category).sum + (M'.2.2.1 + 11) + 64 * d ≤ _; omega)
    (fun w hw => by
      have hx : w ∈ xtb := by
        rcases List.mem_cons.mp hw with rfl | q
        · exact hco
        · exact q
      exact word_at hW (xgood hx).2 (o6 _ hx)) (word_at hW (xgood hini).2 (o6 _ hini)) ⟨Nat.le_trans hcs.1 o14, Nat.le_trans hcs.2 o15⟩ (xPc.blind _ _ _ _ (xpre ok hH hF (T.setVm vm₁) hT hW))
  exact xbackT ok hF hl (by show T.heap = H; exact hT) X' hL e1 hq (fun tg h => hstep₁ _ fun acts => by rw [doInvoke_state]; exact hsteps.trans h) ho kk (fun x σ' R' h => absurd h (hno x σ' R'))
end XCATCH
