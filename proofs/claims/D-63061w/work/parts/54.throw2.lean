/-! throwing: a new exception -/
section XREB
variable {p : Program} {l : Launch} {e : Env} {Rm : Room} {s : State} {m : MethodId} {args : Array Value} {below : List Frame} {meth : Method} {c : Code} {T : State} {locs : List Loc} {cells slots : Nat}
/-- the walk, seen as begun here -/
theorem xrebase (X : Stand p l e Rm s m args below meth c T locs cells slots) {kc ks : Nat} (hc : cells + kc ≤ Rm.cells) (hs : slots + ks ≤ Rm.slots) : Stand p l e { Rm with cells := kc, slots := ks } { s with heap := T.heap, slotsUsed := T.slotsUsed } m args below meth c T [] 0 0 := by
  refine ⟨X.admits, X.cas, X.clock, X.frames, ?_, X.hears, X.method, X.code, X.here, X.tail, X.warmed, X.limits, X.bytes, ?_⟩
  · have hr := X.room
    have h1 := X.heapHas hc hs
    have h2 := X.book
    simp only [State.hasRoom, Bool.and_eq_true, decide_eq_true_eq] at hr ⊢
    exact ⟨⟨⟨hr.1.1.1, h1.1⟩, h1.2⟩, h2⟩
  · have hd : T.heap.toList.drop T.heap.size = [] := List.drop_eq_nil_of_le (by simp)
    refine ⟨X.same.1, Nat.le_refl _, Nat.le_refl _, ?_, ?_, fun a c h => ⟨c, h, rfl, rfl, fun _ _ => rfl⟩⟩
    · show T.slotsUsed = T.slotsUsed + ((T.heap.toList.drop T.heap.size).map (·.slots.size)).sum
      rw [hd]
      rfl
    · show ((T.heap.toList.drop T.heap.size).map (·.slots.size)).sum ≤ 0
      rw [hd]
      exact Nat.le_refl _
theorem xrebased (X : Stand p l e Rm s m args below meth c T locs cells slots) {U : State} {kc ks : Nat} (h : ({ s with heap := T.heap, slotsUsed := T.slotsUsed } : State).sameButNew ({ U with vm := s.vm } : State) [] kc ks) : s.sameButNew ({ U with vm := s.vm } : State) locs (cells + kc) (slots + ks) := by
  have hB : (T.setVm s.vm).sameButNew ({ U with vm := s.vm } : State) [] kc ks := by
    obtain ⟨f1, f2, f3, f4, f5, f6⟩ := h
    refine ⟨?_, f2, f3, f4, f5, f6⟩
    refine f1.trans ?_
    rw [X.same.1]
    show _ = ({ (s.setFrames _).setFrames U.frames with heap := U.heap, slotsUsed := U.slotsUsed } : State)
    rw [State.setFrames_setFrames]
    rfl
  have := X.same.trans hB
  rwa [List.append_nil] at this
end XREB
theorem xisRef {C n d : String} {z : Int} {A : Nat → Prop} {s : State} {args : Array Value} (h : va_Z C n d (rz z) A s s.heap) : (Cond.isRef (.static C n d)).before args s = true := by
  obtain ⟨cf, kf, fi, f, a, cell, h1, h2, h3, h4, h5, h6, h7, h8⟩ := h
  have ev : (Term.static C n d).eval args s none [] s = some (rz z) := by
    simp [Term.eval, State.fieldNamed?, h1, h2, h4, h5, h6, h7]
  rcases rz_or z with hz | ⟨b, hz⟩
  · rw [hz] at ev
    simp [Cond.before, Cond.holds, Cond.value, ev, Value.isRef]
  · rw [hz] at ev
    simp [Cond.before, Cond.holds, Cond.value, ev, Value.isRef]
abbrev xup2 : List String := ["java/lang/RuntimeException", "java/lang/Exception"]
/-- the words that a new exception wants -/
def xEw (own : String) (idx ic : Nat) (C : String) : Prop := Bundle.fit C = true ∧ Cond.classLink own idx C ∈ xtb ∧ Cond.instantiable C 6 ∈ xtb ∧ Cond.initialized C ∈ xtb ∧ (Cond.castable C C ∈ tables_1) ∧
  ∀ w ∈ Bundle.ownAtoms0 own ic C xup2, w ∈ xtb ∨ (w ∈ tables_1 ∧ xwk w = true ∧ w.onTables = true) ∨ w = .laysStatic Bundle.tN "UNASSIGNED_STACK" Bundle.steD ∨ w = .laysStatic Bundle.tN "SUPPRESSED_SENTINEL" Bundle.listD ∨ w = .isRef (.static Bundle.tN "UNASSIGNED_STACK" Bundle.steD) ∨ w = .isRef (.static Bundle.tN "SUPPRESSED_SENTINEL" Bundle.listD)
section XTHROW2
variable {X : xCtx} {M : xM} {B : xB} {σ : xS} {R : xR} {cn sn pc : Nat} {L : List (Option Value)} {st stk : List Value}
theorem x_throwNew (k : Int) (t : Nat) {ci idx ic : Nat} {C : String} {T : u_T} (h9 : k < 90 ∨ 99 < k) (hk : (σ k).2.1 = 0) (h0 : t ≠ 0 ∧ t < 32 ∧ (t - 1) % 16 = ci) (hc : xcl[ci]? = some (C, T, 0)) (hw : xEw M.1.cls idx ic C)
    (hd0 : decode M.2.1 pc = .ok (.new idx, 3)) (hd3 : decode M.2.1 (pc + 3) = .ok (.dup, 1)) (hd4 : decode M.2.1 (pc + 4) = .ok (.invokespecial ic, 3)) (hd7 : decode M.2.1 (pc + 7) = .ok (.athrow, 1)) (hno : M.1.cls ≠ "RepairDeskLaw") (hB : 6 ≤ B.1) (hcs : cn + 1 ≤ B.2.1 ∧ sn + 6 ≤ B.2.2.1) (hcat : (st.map fun v => v.category).sum ≤ 8)
    (hz : ∀ q : Nat, B.2.2.2 (.threw q) (xsu σ k (q, t, 0)) (xru R k (fun _ => 0))) : V X M B σ R cn sn pc L st := by
  obtain ⟨p, l, e, Rm, s, m, args, below, meth, c, N0, D, dA⟩ := X
  intro ok H locs ls hH hF hl T0 hT0 X0
  obtain ⟨o1, o2, o3, o4, o5, o6, o7, o8, o9, o10, o11, o12, o13, o14, o15⟩ := ok
  obtain ⟨w1, w2, w3, w4, w5, w6⟩ := hw
  have hKn := o7.1.1 ci _ hc
  have hc1 : cn + 1 ≤ Rm.cells := Nat.le_trans hcs.1 o14
  have hs1 : sn + 6 ≤ Rm.slots := Nat.le_trans hcs.2 o15
  have Y := xrebase X0 hc1 hs1
  generalize hs' : ({ s with heap := T0.heap, slotsUsed := T0.slotsUsed } : State) = s' at Y
  have hvm : s'.vm = s.vm := by rw [← hs']
  have hh' : s'.heap = H := by rw [← hs']; exact hT0
  have ww : ∀ w ∈ xtb, w.before args s' = true := fun w hw => by
    rcases (xgood hw).2 with q | ⟨ty, rfl⟩
    · rw [← hs']; exact word_at (s := s) (U := { s with heap := T0.heap, slotsUsed := T0.slotsUsed }) (State.WarmedH.refl s) (Or.inl q) (o6 _ hw)
    · rw [← hs']; exact word_at (s := s) (U := { s with heap := T0.heap, slotsUsed := T0.slotsUsed }) (State.WarmedH.refl s) (Or.inr ⟨ty, rfl⟩) (o6 _ hw)
  obtain ⟨vm', cC, kC, f1, f2, f3, f4, Y1, st1⟩ := Y.newCold o1 (own := M.1.cls) (C := C) (index := idx) (n := 6) (by rw [hvm]; exact o5) (ww _ w2) (ww _ w3) (ww _ w4) (g := F0 m pc ls st) rfl (by rw [o2]; exact hd0) (by show 0 + 1 ≤ 1; decide) (by show 0 + 6 ≤ 6; decide)
  have hcC : cC = D.1 ci := by
    rw [hvm] at f1
    exact Option.some.inj (f1.symm.trans hKn.2.1)
  have hTs : T0.heap.size = H.size := by rw [hT0]
  have hat : ∀ a ∈ Bundle.ownAtoms0 M.1.cls ic C xup2, a.before args s' = true := by
    have hT : xT l N0 dA s' := o7.2.moved (by rw [hvm]; exact Vm.Alike.refl _) (fun q hq => by rw [hh']; exact hF.2.1 q hq) (fun w hk => xwk_same hk hvm.symm)
    intro w hw
    rcases w6 w hw with h | ⟨h, h2, h3⟩ | rfl | rfl | rfl | rfl
    · exact ww _ h
    · exact va_Nw.use (A := args) h3 (hT.2.2.2.2.2.2.2.2 _ (List.mem_append_left _ h) h2)
    · exact hT.1.2.1.word
    · exact hT.1.2.2.word
    · exact xisRef hT.2.2.2.2.1
    · exact xisRef hT.2.2.2.2.2.1
  obtain ⟨U, h1, h2, h3, h4, h5, ce, h6, h7⟩ := Y1.ctorThrow0 o1 (Launch.traces_off o7.2.1.1 X0.admits) (own := M.1.cls) (cls := C) (names := xup2) (ic := ic) (by rw [hvm]; exact o5) w1 (by decide +kernel) hat (fun x hx => by cases hx) f1 f2 (a := T0.heap.size) (by simp [State.pushCell]) (by rw [hh', hTs]; exact Nat.le_refl _)
    (g := F0 m (pc + 4) ls (.ref T0.heap.size :: .ref T0.heap.size :: st)) rfl (by rw [o3]; exact hl.1) rfl rfl (rest := st) rfl (by rw [o2]; exact hd4) (by rw [o2]; exact hd7) (xEt.out o11 hno _) (by show 2 + 3 < Rm.frames; omega) (by show 2 * 0 + ((Value.ref T0.heap.size :: st).map fun v => v.category).sum + (13 * (2 + 1) + 41) ≤ Rm.locals; simp only [List.map_cons, List.sum_cons]; show 2 * 0 + (1 + (st.map fun v => v.category).sum) + (13 * (2 + 1) + 41) ≤ Rm.locals; omega) o8
  have hU : ∀ q, q < H.size → U.heap[q]? = H[q]? := by
    intro q hq
    obtain ⟨-, -, -, -, -, g6⟩ := h5
    have hq' : s'.heap[q]? = some (H[q]'hq) := by rw [hh']; exact Array.getElem?_eq_getElem hq
    obtain ⟨c', g1, g2, g3, g4⟩ := g6 q _ hq'
    have e1 : c'.slots = (H[q]'hq).slots := by
      refine Array.ext_getElem? fun i => ?_
      exact g4 i (fun h => by cases h)
    have g1' : U.heap[q]? = some c' := g1
    rw [g1', g2, e1, Array.getElem?_eq_getElem hq]
  have hsame := xrebased X0 (U := U) (kc := 1) (ks := 6) (by rw [hs']; rw [← hvm]; exact h5)
  have hsz : H.size ≤ U.heap.size := by
    have := h5.2.1
    rw [hh'] at this
    exact this
  refine ⟨U, ?_, .threw H.size, h2, by rw [← hTs]; exact h3, ⟨⟨_, _, hz H.size, ?_⟩, Nat.le_trans hF.1 hsz, fun q hq => (hU q (Nat.lt_of_lt_of_le hq (Nat.le_trans o9 hF.1))).trans (hF.2.1 q hq)⟩, locs, ⟨by rw [← hs'] at h4; exact h4, hsame.weaken (fun _ h _ => h) hcs.1 hcs.2⟩, hF.2.2⟩
  · refine st1 U ?_
    show Steps p.tables e below (State.setTop _ (F0 m (pc + 3) ls (.ref T0.heap.size :: st))) _
    have hva : (Value.ref T0.heap.size).category = 1 := rfl
    jvm_step Y1.here [Y1.here.top, o1, o2, hd3, hva]
    exact ⟨_, State.topJava?_setTop' _ Y1.here.top, _, _, rfl, rfl, h1⟩
  · refine hH.add h9 hk (Nat.le_trans o9 hF.1) rfl hU (fun j hj => ?_) ?_
    · have : xns t 0 = 0 := by
        unfold xns
        rw [if_pos h0.2.1, h0.2.2, hc]
      omega
    · unfold xAt
      rw [xsu_self, if_pos h0.2.1]
      dsimp only
      rw [h0.2.2]
      exact ⟨_, hc, ce, by rw [← hTs]; exact h6, by
        have h8 := h7.cls
        rw [hvm] at h8
        exact Option.some.inj (h8.symm.trans hKn.2.1), h7.vm, fun j hj => absurd hj (Nat.not_lt_zero _)⟩
end XTHROW2
theorem ew_IAE : xEw "RepairDesk" 81 83 "java/lang/IllegalArgumentException" := by unfold xEw; decide +kernel
theorem ew_ISE : xEw "RepairDesk" 84 86 "java/lang/IllegalStateException" := by unfold xEw; decide +kernel
theorem ew_UOE : xEw "RepairDesk" 229 231 "java/lang/UnsupportedOperationException" := by unfold xEw; decide +kernel
theorem ew_NSE : xEw "RepairDesk" 257 259 "java/util/NoSuchElementException" := by unfold xEw; decide +kernel
/-- it threw an exception of type t, at region k; all else stays -/
def Zx (σ : xS) (R : xR) (k : Int) (t : Nat) : xZ := fun o σ' R' => ∃ q : Nat, o = .threw q ∧ σ' = xsu σ k (q, t, 0) ∧ R' = xru R k (fun _ => 0)
/-- all stays if c holds, else an exception of type t is thrown -/
def Zn (c : Prop) (σ : xS) (R : xR) (k : Int) (t : Nat) : xZ := fun o σ' R' => (c ∧ o = .returned none ∧ σ' = σ ∧ R' = R) ∨ (¬ c ∧ Zx σ R k t o σ' R')
theorem c_D_need {σ : xS} {R : xR} (z k : Int) (hz : z = 0 ∨ z = 1) (h9 : k < 90 ∨ 99 < k) (hk : (σ k).2.1 = 0) : CtT m_D_need 6 1 6 [vi z] σ R (Zn (z = 1) σ R k 8) := by
  refine CtT.of [some (vi z)] rfl (by decide +kernel) (lr rfl) (fun X => ?_)
  refine x_iload_n d_D_need_0 0 rfl rfl ?_
  refine x_if_ne (tgt := 12) d_D_need_1 rfl (by omega) (fun c => ?_) (fun c => ?_)
  · exact x_vret d_D_need_12 rfl (lr rfl) (lr rfl) (Or.inl ⟨by omega, rfl, rfl, rfl⟩)
  · exact x_throwNew k 8 (ci := 7) h9 hk (by decide) rfl ew_IAE d_D_need_4 d_D_need_7 d_D_need_8 d_D_need_11 (by decide +kernel) (lr rfl) ⟨lr rfl, lr rfl⟩ (lr rfl) (fun q => Or.inr ⟨by omega, q, rfl, rfl, rfl⟩)
theorem c_D_state {σ : xS} {R : xR} (z k : Int) (hz : z = 0 ∨ z = 1) (h9 : k < 90 ∨ 99 < k) (hk : (σ k).2.1 = 0) : CtT m_D_state 6 1 6 [vi z] σ R (Zn (z = 1) σ R k 9) := by
  refine CtT.of [some (vi z)] rfl (by decide +kernel) (lr rfl) (fun X => ?_)
  refine x_iload_n d_D_state_0 0 rfl rfl ?_
  refine x_if_ne (tgt := 12) d_D_state_1 rfl (by omega) (fun c => ?_) (fun c => ?_)
  · exact x_vret d_D_state_12 rfl (lr rfl) (lr rfl) (Or.inl ⟨by omega, rfl, rfl, rfl⟩)
  · exact x_throwNew k 9 (ci := 8) h9 hk (by decide) rfl ew_ISE d_D_state_4 d_D_state_7 d_D_state_8 d_D_state_11 (by decide +kernel) (lr rfl) ⟨lr rfl, lr rfl⟩ (lr rfl) (fun q => Or.inr ⟨by omega, q, rfl, rfl, rfl⟩)
