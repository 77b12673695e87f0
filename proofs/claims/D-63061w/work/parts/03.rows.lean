/-! V: the walk over a memory of regions; a row an instruction -/
abbrev xZ : Type := Outcome → xS → xR → Prop
/-- level, cells, slots, post -/
abbrev xB : Type := Nat × Nat × Nat × xZ
def xrm (d C S : Nat) : Room := { frames := d, cells := C, slots := S, locals := 64 * d }
def xPc (l : Launch) (D : va_G) (dA : FieldType → ClassId) (N0 : Nat) (σ : xS) (R : xR) (av : List Value) : Array Value → State → Prop := fun v U => v = av.toArray ∧ (xG D dA U ∧ xT l N0 dA U) ∧ xH D dA N0 σ R U.heap ∧ N0 ≤ U.heap.size
def xQc (D : va_G) (dA : FieldType → ClassId) (N0 : Nat) (Z : xZ) : Array Value → State → Outcome → State → Prop := fun _ st oc t => (∃ σ R, Z oc σ R ∧ xH D dA N0 σ R t.heap) ∧ st.heap.size ≤ t.heap.size ∧ ∀ q : Nat, q < N0 → t.heap[q]? = st.heap[q]?
abbrev xfr (N0 : Nat) : Addr → Prop := fun q => N0 ≤ q
abbrev xCtx : Type := Program × Launch × Env × Room × State × MethodId × Array Value × List Frame × Method × Code × Nat × va_G × (FieldType → ClassId)
/-- the end of a method that returned or threw -/
def xFE (s t : State) (L : List Loc) (k n : Nat) : Prop := s.WarmedH t.vm ∧ s.sameButNew ({ t with vm := s.vm } : State) L k n
def xMQ (below : List Frame) (Qc : Array Value → State → Outcome → State → Prop) (a : Array Value) (s : State) (mc ms : Nat) (free : Addr → Prop) : State → Prop := fun t =>
  ∃ o, t.status = .running ∧ Ended t below o ∧ Qc a s o t ∧ ∃ L, xFE s t L mc ms ∧ ∀ q ∈ L, free q.base
theorem xW {p : Program} {l : Launch} {e : Env} {R : Room} {s : State} {m : MethodId} {args : Array Value} {below : List Frame} {meth : Method} {c : Code} {H : Heap} {locs : List Loc} {cells slots : Nat} {Qc : Array Value → State → Outcome → State → Prop} {a : Array Value} {mc ms : Nat} {free : Addr → Prop} {g : JFrame}
    (h : W p l e R s m args below meth c H locs cells slots (MQ below Qc a s mc ms free) g) : W p l e R s m args below meth c H locs cells slots (xMQ below Qc a s mc ms free) g := by
  intro T hT X
  obtain ⟨t, h1, o, h2, h3, h4, L, h5, h6⟩ := h T hT X
  exact ⟨t, h1, o, h2, h3, h4, L, h5.2, h6⟩
theorem xWr {p : Program} {l : Launch} {e : Env} {R : Room} {s : State} {m : MethodId} {args : Array Value} {below : List Frame} {meth : Method} {c : Code} {H : Heap} {locs : List Loc} {cells slots : Nat} {Qc : Array Value → State → Outcome → State → Prop} {a : Array Value} {mc ms : Nat} {free : Addr → Prop} {g : JFrame}
    (hr : ∀ o t, Qc a s o t → ∃ v, o = .returned v) (h : W p l e R s m args below meth c H locs cells slots (xMQ below Qc a s mc ms free) g) : W p l e R s m args below meth c H locs cells slots (MQ below Qc a s mc ms free) g := by
  intro T hT X
  obtain ⟨t, h1, o, h2, h3, h4, L, h5, h6⟩ := h T hT X
  exact ⟨t, h1, o, h2, h3, h4, L, ⟨hr o t h4, h5⟩, h6⟩
/-- the law's methods that catch: what they catch, and where -/
def xwr : List (MethodName × List (Nat × Nat × Nat × Nat)) := [
  (⟨"RepairDeskLaw", "rule", "(LRepairDesk;[J)I"⟩, [(0, 8, 11, 13), (0, 8, 14, 15)]),
  (⟨"RepairDeskLaw", "compile", "(LRepairDesk;[J)I"⟩, [(0, 8, 11, 15), (0, 8, 14, 20)]),
  (⟨"RepairDeskLaw", "text", "(LRepairDesk;[J)I"⟩, [(0, 8, 11, 13)]),
  (⟨"RepairDeskLaw", "parse", "(LRepairDesk;[J)I"⟩, [(0, 8, 11, 15)]),
  (⟨"RepairDeskLaw", "repair", "(LRepairDesk;I[J)I"⟩, [(0, 9, 12, 15), (0, 9, 15, 13), (0, 9, 18, 20)]),
  (⟨"RepairDeskLaw", "reach", "(LRepairDesk;I[J)I"⟩, [(0, 9, 12, 35)]),
  (⟨"RepairDeskLaw", "apply", "(LRepairDesk;I[J)I"⟩, [(0, 9, 12, 35), (0, 9, 15, 15)])]
/-- what a method catches: nothing, or what the list says -/
def xEt (M : xM) (c : Code) : Prop := c.exceptionTable.isEmpty = true ∨ ∃ q ∈ xwr, q.1 = M.1 ∧ (c.exceptionTable.toList.map fun x => (x.startPc, x.endPc, x.handlerPc, x.catchType)) = q.2
/-- what holds all along a walk -/
def xOk (X : xCtx) (M : xM) (B : xB) : Prop := match X with
  | (p, l, _, Rm, s, m, args, _, meth, c, N0, D, dA) => p.tables.exec = Jvm.exec ∧ c.code = M.2.1 ∧ c.maxLocals = M.2.2.1 ∧ meth.sig.returnType = M.2.2.2 ∧ s.vm.findClass M.1.cls = some m.cls ∧ (∀ w ∈ xtb, w.before args s = true) ∧ (xG D dA s ∧ xT l N0 dA s) ∧ meth.locks = false ∧ N0 ≤ s.heap.size ∧ meth.name = M.1.name ∧ xEt M c ∧ B.1 ≤ Rm.frames ∧ 64 * B.1 ≤ Rm.locals ∧ B.2.1 ≤ Rm.cells ∧ B.2.2.1 ≤ Rm.slots
def V (X : xCtx) (M : xM) (B : xB) (σ : xS) (R : xR) (cn sn pc : Nat) (L : List (Option Value)) (st : List Value) : Prop := match X with
  | (p, l, e, Rm, s, m, args, below, meth, c, N0, D, dA) => xOk (p, l, e, Rm, s, m, args, below, meth, c, N0, D, dA) M B → ∀ (H : Heap) (locs : List Loc) (ls : Array Slot), xH D dA N0 σ R H → xF N0 s H locs → xL ls M.2.2.1 L →
    W p l e Rm s m args below meth c H locs cn sn (xMQ below (xQc D dA N0 B.2.2.2) args s B.2.1 B.2.2.1 (xfr N0)) (F0 m pc ls st)
/-- a method's contract -/
def Ct (M : xM) (d C S : Nat) (av : List Value) (σ : xS) (R : xR) (Z : xZ) : Prop := ∀ (l : Launch) (N0 : Nat) (D : va_G) (dA : FieldType → ClassId), Met l M.1 (xw M) (xrm d C S) (xPc l D dA N0 σ R av) (xQc D dA N0 Z) C S (xfr N0)
theorem Ct.of {M : xM} {d C S : Nat} {av : List Value} {σ : xS} {R : xR} {Z : xZ} (L : List (Option Value)) (hL : xarg M.2.2.1 av = L) (hy : plainName M.1.cls = true) (hlen : (lg_sl av).length ≤ M.2.2.1)
    (h : ∀ X, V X M (d, C, S, Z) σ R 0 0 0 L []) (hZ : ∀ o σ' R', Z o σ' R' → ∃ v, o = .returned v := by intro o σ' R' h; first | exact ⟨_, h.1⟩ | (obtain ⟨_, h1, -⟩ := h; exact ⟨_, h1⟩) | (obtain ⟨_, _, h1, -⟩ := h; exact ⟨_, h1⟩)) : Ct M d C S av σ R Z := by
  intro l N0 D dA
  refine Met.ofW (cc := M.2.1) (maxL := M.2.2.1) (ret := M.2.2.2) hy rfl ?_
  intro p e s m args below meth c s₁ B hml hv
  obtain ⟨rfl, hG, hH, hN⟩ := hv
  have hts := atoms_spec (ws := xw M) B.pre
  have hl := lv_entry av (n := M.2.2.1) hlen
  rw [lg_entry_eq]
  have hX := h (p, l, e, xrm d C S, s, m, av.toArray, below, meth, c, N0, D, dA)
  refine xWr (fun o t h => by obtain ⟨⟨σ', R', hz, -⟩, -⟩ := h; exact hZ o σ' R' hz) ?_
  exact hX ⟨B.exec, B.bytes, hml, B.returns, findClass_of_methodNamed B.named, fun w hw => hts w (List.mem_cons_of_mem _ hw), hG, B.notSynchronized, hN, (name_of_methodNamed B.named B.method).1, Or.inl (B.noHandlers (hts _ List.mem_cons_self)), Nat.le_refl _, Nat.le_refl _, Nat.le_refl _, Nat.le_refl _⟩ s.heap [] _ hH xF.rf (hL ▸ xL.entry hl)
section XROWS
variable {X : xCtx} {M : xM} {B : xB} {σ : xS} {R : xR} {cn sn pc : Nat} {L : List (Option Value)} {st : List Value}
theorem V.widen (cn' sn' : Nat) (h1 : cn ≤ cn') (h2 : sn ≤ sn') (k : V X M B σ R cn' sn' pc L st) : V X M B σ R cn sn pc L st := by
  obtain ⟨p, l, e, Rm, s, m, args, below, meth, c, N0, D, dA⟩ := X
  intro ok H locs ls hH hF hl
  exact W.widen h1 h2 (k ok H locs ls hH hF hl)
theorem V.sk {st' : List Value} (h : st = st') (k : V X M B σ R cn sn pc L st') : V X M B σ R cn sn pc L st := h ▸ k
theorem V.lo {L' : List (Option Value)} (h : L = L') (k : V X M B σ R cn sn pc L' st) : V X M B σ R cn sn pc L st := h ▸ k
theorem V.re {R' : xR} (h : R = R') (k : V X M B σ R' cn sn pc L st) : V X M B σ R cn sn pc L st := h ▸ k
/-- fewer locals known -/
theorem V.less {L' : List (Option Value)} (hlen : L'.length = L.length) (h : ∀ (i : Nat) (v : Value), L'[i]? = some (some v) → L[i]? = some (some v)) (k : V X M B σ R cn sn pc L' st) : V X M B σ R cn sn pc L st := by
  obtain ⟨p, l, e, Rm, s, m, args, below, meth, c, N0, D, dA⟩ := X
  intro ok H locs ls hH hF hl
  exact k ok H locs ls hH hF ⟨hl.1, hl.2.1, hlen.trans hl.2.2.1, fun i v hi => hl.2.2.2 i v (h i v hi)⟩
def xles (L L' : List (Option Value)) (ks : List Nat) : Prop := L' = (List.range L.length).map (fun i => if i ∈ ks then L.getD i none else none)
theorem x_iconst {n : Int} (hd : decode M.2.1 pc = .ok (.iconst n, 1)) (k : V X M B σ R cn sn (pc + 1) L (vi n :: st)) : V X M B σ R cn sn pc L (st) := by
  obtain ⟨p, l, e, Rm, s, m, args, below, meth, c, N0, D, dA⟩ := X
  intro ok H locs ls hH hF hl
  exact lv_iconst ok.1 ok.2.1 hd rfl (k ok H locs ls hH hF hl)
theorem x_bipush {n : Int} (hd : decode M.2.1 pc = .ok (.bipush n, 2)) (hn : (Int8.ofInt n).toInt32 = iI n) (k : V X M B σ R cn sn (pc + 2) L (vi n :: st)) : V X M B σ R cn sn pc L (st) := by
  obtain ⟨p, l, e, Rm, s, m, args, below, meth, c, N0, D, dA⟩ := X
  intro ok H locs ls hH hF hl
  exact lv_bipush ok.1 ok.2.1 hd hn (k ok H locs ls hH hF hl)
theorem x_sipush {n : Int} (hd : decode M.2.1 pc = .ok (.sipush n, 3)) (hn : (Int16.ofInt n).toInt32 = iI n) (k : V X M B σ R cn sn (pc + 3) L (vi n :: st)) : V X M B σ R cn sn pc L (st) := by
  obtain ⟨p, l, e, Rm, s, m, args, below, meth, c, N0, D, dA⟩ := X
  intro ok H locs ls hH hF hl
  exact lv_sipush ok.1 ok.2.1 hd hn (k ok H locs ls hH hF hl)
theorem x_lconst {n : Fin 2} (hd : decode M.2.1 pc = .ok (.lconst n, 1)) (hn : Int64.ofNat (n : Nat) = lI (n : Nat)) (k : V X M B σ R cn sn (pc + 1) L (vl (n : Nat) :: st)) : V X M B σ R cn sn pc L (st) := by
  obtain ⟨p, l, e, Rm, s, m, args, below, meth, c, N0, D, dA⟩ := X
  intro ok H locs ls hH hF hl
  exact lv_lconst ok.1 ok.2.1 hd hn (k ok H locs ls hH hF hl)
theorem x_null (hd : decode M.2.1 pc = .ok (.aconst_null, 1)) (k : V X M B σ R cn sn (pc + 1) L (.null :: st)) : V X M B σ R cn sn pc L (st) := by
  obtain ⟨p, l, e, Rm, s, m, args, below, meth, c, N0, D, dA⟩ := X
  intro ok H locs ls hH hF hl
  exact lv_null ok.1 ok.2.1 hd (k ok H locs ls hH hF hl)
theorem x_iload_n {j : Fin 4} {a : Int} (hd : decode M.2.1 pc = .ok (.iload_n j, 1)) (i : Nat) (hi : (j : Nat) = i) (hL : L[i]? = some (some (vi a))) (k : V X M B σ R cn sn (pc + 1) L (vi a :: st)) : V X M B σ R cn sn pc L (st) := by
  obtain ⟨p, l, e, Rm, s, m, args, below, meth, c, N0, D, dA⟩ := X
  intro ok H locs ls hH hF hl
  exact lv_iload_n ok.1 ok.2.1 hd hi (hl.2.2.2 i _ hL) (k ok H locs ls hH hF hl)
theorem x_iload {i : Nat} {a : Int} (hd : decode M.2.1 pc = .ok (.iload i, 2)) (hL : L[i]? = some (some (vi a))) (k : V X M B σ R cn sn (pc + 2) L (vi a :: st)) : V X M B σ R cn sn pc L (st) := by
  obtain ⟨p, l, e, Rm, s, m, args, below, meth, c, N0, D, dA⟩ := X
  intro ok H locs ls hH hF hl
  exact lv_iload ok.1 ok.2.1 hd (hl.2.2.2 i _ hL) (k ok H locs ls hH hF hl)
theorem x_lload_n {j : Fin 4} {a : Int} (hd : decode M.2.1 pc = .ok (.lload_n j, 1)) (i : Nat) (hi : (j : Nat) = i) (hL : L[i]? = some (some (vl a))) (k : V X M B σ R cn sn (pc + 1) L (vl a :: st)) : V X M B σ R cn sn pc L (st) := by
  obtain ⟨p, l, e, Rm, s, m, args, below, meth, c, N0, D, dA⟩ := X
  intro ok H locs ls hH hF hl
  exact lv_lload_n ok.1 ok.2.1 hd hi (hl.2.2.2 i _ hL) (k ok H locs ls hH hF hl)
theorem x_lload {i : Nat} {a : Int} (hd : decode M.2.1 pc = .ok (.lload i, 2)) (hL : L[i]? = some (some (vl a))) (k : V X M B σ R cn sn (pc + 2) L (vl a :: st)) : V X M B σ R cn sn pc L (st) := by
  obtain ⟨p, l, e, Rm, s, m, args, below, meth, c, N0, D, dA⟩ := X
  intro ok H locs ls hH hF hl
  exact lv_lload ok.1 ok.2.1 hd (hl.2.2.2 i _ hL) (k ok H locs ls hH hF hl)
theorem x_aload_n {j : Fin 4} {a : Nat} (hd : decode M.2.1 pc = .ok (.aload_n j, 1)) (i : Nat) (hi : (j : Nat) = i) (hL : L[i]? = some (some (.ref a))) (k : V X M B σ R cn sn (pc + 1) L (.ref a :: st)) : V X M B σ R cn sn pc L (st) := by
  obtain ⟨p, l, e, Rm, s, m, args, below, meth, c, N0, D, dA⟩ := X
  intro ok H locs ls hH hF hl
  exact lv_aload_n ok.1 ok.2.1 hd hi (hl.2.2.2 i _ hL) (k ok H locs ls hH hF hl)
theorem x_aload {i : Nat} {a : Nat} (hd : decode M.2.1 pc = .ok (.aload i, 2)) (hL : L[i]? = some (some (.ref a))) (k : V X M B σ R cn sn (pc + 2) L (.ref a :: st)) : V X M B σ R cn sn pc L (st) := by
  obtain ⟨p, l, e, Rm, s, m, args, below, meth, c, N0, D, dA⟩ := X
  intro ok H locs ls hH hF hl
  exact lv_aload ok.1 ok.2.1 hd (hl.2.2.2 i _ hL) (k ok H locs ls hH hF hl)
theorem x_istore_n {j : Fin 4} {a : Int} (hd : decode M.2.1 pc = .ok (.istore_n j, 1)) (i : Nat) (hi : (j : Nat) = i) (L' : List (Option Value)) (hL : L.set i (some (vi a)) = L') (ho : xo1 L i = true) (hn : i < M.2.2.1) (k : V X M B σ R cn sn (pc + 1) L' (st)) : V X M B σ R cn sn pc L (vi a :: st) := by
  obtain ⟨p, l, e, Rm, s, m, args, below, meth, c, N0, D, dA⟩ := X
  intro ok H locs ls hH hF hl
  subst hL
  exact lv_istore_n ok.1 ok.2.1 hd hi hl.has hn rfl (fun ls1 h1 => k ok H locs ls1 hH hF (hl.st1 ho h1))
theorem x_istore {i : Nat} {a : Int} (hd : decode M.2.1 pc = .ok (.istore i, 2)) (L' : List (Option Value)) (hL : L.set i (some (vi a)) = L') (ho : xo1 L i = true) (hn : i < M.2.2.1) (k : V X M B σ R cn sn (pc + 2) L' (st)) : V X M B σ R cn sn pc L (vi a :: st) := by
  obtain ⟨p, l, e, Rm, s, m, args, below, meth, c, N0, D, dA⟩ := X
  intro ok H locs ls hH hF hl
  subst hL
  exact lv_istore ok.1 ok.2.1 hd hl.has hn rfl (fun ls1 h1 => k ok H locs ls1 hH hF (hl.st1 ho h1))
theorem x_astore_n {j : Fin 4} {a : Nat} (hd : decode M.2.1 pc = .ok (.astore_n j, 1)) (i : Nat) (hi : (j : Nat) = i) (L' : List (Option Value)) (hL : L.set i (some (.ref a)) = L') (ho : xo1 L i = true) (hn : i < M.2.2.1) (k : V X M B σ R cn sn (pc + 1) L' (st)) : V X M B σ R cn sn pc L (.ref a :: st) := by
  obtain ⟨p, l, e, Rm, s, m, args, below, meth, c, N0, D, dA⟩ := X
  intro ok H locs ls hH hF hl
  subst hL
  exact lv_astore_n ok.1 ok.2.1 hd hi hl.has hn rfl (fun ls1 h1 => k ok H locs ls1 hH hF (hl.st1 ho h1))
theorem x_astore {i : Nat} {a : Nat} (hd : decode M.2.1 pc = .ok (.astore i, 2)) (L' : List (Option Value)) (hL : L.set i (some (.ref a)) = L') (ho : xo1 L i = true) (hn : i < M.2.2.1) (k : V X M B σ R cn sn (pc + 2) L' (st)) : V X M B σ R cn sn pc L (.ref a :: st) := by
  obtain ⟨p, l, e, Rm, s, m, args, below, meth, c, N0, D, dA⟩ := X
  intro ok H locs ls hH hF hl
  subst hL
  exact lv_astore ok.1 ok.2.1 hd hl.has hn rfl (fun ls1 h1 => k ok H locs ls1 hH hF (hl.st1 ho h1))
theorem x_iinc {i : Nat} {a n : Int} (hd : decode M.2.1 pc = .ok (.iinc i n, 3)) (hi : L[i]? = some (some (vi a))) (L' : List (Option Value)) (hL : L.set i (some (vi (a + n))) = L') (ho : xo1 L i = true) (hn : i < M.2.2.1) (k : V X M B σ R cn sn (pc + 3) L' (st)) : V X M B σ R cn sn pc L (st) := by
  obtain ⟨p, l, e, Rm, s, m, args, below, meth, c, N0, D, dA⟩ := X
  intro ok H locs ls hH hF hl
  subst hL
  obtain ⟨kk, hk⟩ := List.getElem?_of_mem (xprs_mem.mpr hi : ((i, vi a) : Nat × Value) ∈ xprs L)
  exact lv_iinc ok.1 ok.2.1 hd hl.has hk (iI_add a n) hn rfl (fun ls1 h1 => k ok H locs ls1 hH hF (hl.st1 ho h1))
theorem x_iadd {a b : Int} (hd : decode M.2.1 pc = .ok (.iadd, 1)) (k : V X M B σ R cn sn (pc + 1) L (vi (a + b) :: st)) : V X M B σ R cn sn pc L (vi b :: vi a :: st) := by
  obtain ⟨p, l, e, Rm, s, m, args, below, meth, c, N0, D, dA⟩ := X
  intro ok H locs ls hH hF hl
  refine lv_iadd ok.1 ok.2.1 hd ?_
  rw [iI_add]
  exact k ok H locs ls hH hF hl
theorem x_isub {a b : Int} (hd : decode M.2.1 pc = .ok (.isub, 1)) (k : V X M B σ R cn sn (pc + 1) L (vi (a - b) :: st)) : V X M B σ R cn sn pc L (vi b :: vi a :: st) := by
  obtain ⟨p, l, e, Rm, s, m, args, below, meth, c, N0, D, dA⟩ := X
  intro ok H locs ls hH hF hl
  refine lv_isub ok.1 ok.2.1 hd ?_
  rw [iI_sub]
  exact k ok H locs ls hH hF hl
theorem x_imul {a b : Int} (hd : decode M.2.1 pc = .ok (.imul, 1)) (k : V X M B σ R cn sn (pc + 1) L (vi (a * b) :: st)) : V X M B σ R cn sn pc L (vi b :: vi a :: st) := by
  obtain ⟨p, l, e, Rm, s, m, args, below, meth, c, N0, D, dA⟩ := X
  intro ok H locs ls hH hF hl
  refine lv_imul ok.1 ok.2.1 hd ?_
  rw [iI_mul]
  exact k ok H locs ls hH hF hl
theorem x_iand {a b : Int} (hd : decode M.2.1 pc = .ok (.iand, 1)) (z : Int) (hz : iI a &&& iI b = iI z) (k : V X M B σ R cn sn (pc + 1) L (vi z :: st)) : V X M B σ R cn sn pc L (vi b :: vi a :: st) := by
  obtain ⟨p, l, e, Rm, s, m, args, below, meth, c, N0, D, dA⟩ := X
  intro ok H locs ls hH hF hl
  refine lv_iand ok.1 ok.2.1 hd ?_
  rw [hz]
  exact k ok H locs ls hH hF hl
theorem x_ior {a b : Int} (hd : decode M.2.1 pc = .ok (.ior, 1)) (z : Int) (hz : iI a ||| iI b = iI z) (k : V X M B σ R cn sn (pc + 1) L (vi z :: st)) : V X M B σ R cn sn pc L (vi b :: vi a :: st) := by
  obtain ⟨p, l, e, Rm, s, m, args, below, meth, c, N0, D, dA⟩ := X
  intro ok H locs ls hH hF hl
  refine lv_ior ok.1 ok.2.1 hd ?_
  rw [hz]
  exact k ok H locs ls hH hF hl
theorem x_ixor {a b : Int} (hd : decode M.2.1 pc = .ok (.ixor, 1)) (z : Int) (hz : iI a ^^^ iI b = iI z) (k : V X M B σ R cn sn (pc + 1) L (vi z :: st)) : V X M B σ R cn sn pc L (vi b :: vi a :: st) := by
  obtain ⟨p, l, e, Rm, s, m, args, below, meth, c, N0, D, dA⟩ := X
  intro ok H locs ls hH hF hl
  refine lv_ixor ok.1 ok.2.1 hd ?_
  rw [hz]
  exact k ok H locs ls hH hF hl
theorem x_ishl {a b : Int} (hd : decode M.2.1 pc = .ok (.ishl, 1)) (z : Int) (hz : iI a <<< (iI b &&& 31) = iI z) (k : V X M B σ R cn sn (pc + 1) L (vi z :: st)) : V X M B σ R cn sn pc L (vi b :: vi a :: st) := by
  obtain ⟨p, l, e, Rm, s, m, args, below, meth, c, N0, D, dA⟩ := X
  intro ok H locs ls hH hF hl
  refine lv_ishl ok.1 ok.2.1 hd ?_
  rw [hz]
  exact k ok H locs ls hH hF hl
theorem x_ishr {a b : Int} (hd : decode M.2.1 pc = .ok (.ishr, 1)) (z : Int) (hz : iI a >>> (iI b &&& 31) = iI z) (k : V X M B σ R cn sn (pc + 1) L (vi z :: st)) : V X M B σ R cn sn pc L (vi b :: vi a :: st) := by
  obtain ⟨p, l, e, Rm, s, m, args, below, meth, c, N0, D, dA⟩ := X
  intro ok H locs ls hH hF hl
  refine lv_ishr ok.1 ok.2.1 hd ?_
  rw [hz]
  exact k ok H locs ls hH hF hl
theorem x_land {a b : Int} (hd : decode M.2.1 pc = .ok (.land, 1)) (z : Int) (hz : lI a &&& lI b = lI z) (k : V X M B σ R cn sn (pc + 1) L (vl z :: st)) : V X M B σ R cn sn pc L (vl b :: vl a :: st) := by
  obtain ⟨p, l, e, Rm, s, m, args, below, meth, c, N0, D, dA⟩ := X
  intro ok H locs ls hH hF hl
  refine lv_land ok.1 ok.2.1 hd ?_
  rw [hz]
  exact k ok H locs ls hH hF hl
theorem x_lor {a b : Int} (hd : decode M.2.1 pc = .ok (.lor, 1)) (z : Int) (hz : lI a ||| lI b = lI z) (k : V X M B σ R cn sn (pc + 1) L (vl z :: st)) : V X M B σ R cn sn pc L (vl b :: vl a :: st) := by
  obtain ⟨p, l, e, Rm, s, m, args, below, meth, c, N0, D, dA⟩ := X
  intro ok H locs ls hH hF hl
  refine lv_lor ok.1 ok.2.1 hd ?_
  rw [hz]
  exact k ok H locs ls hH hF hl
theorem x_lshl {a b : Int} (hd : decode M.2.1 pc = .ok (.lshl, 1)) (z : Int) (hz : lI a <<< ((iI b).toInt64 &&& 63) = lI z) (k : V X M B σ R cn sn (pc + 1) L (vl z :: st)) : V X M B σ R cn sn pc L (vi b :: vl a :: st) := by
  obtain ⟨p, l, e, Rm, s, m, args, below, meth, c, N0, D, dA⟩ := X
  intro ok H locs ls hH hF hl
  exact lv_lshl ok.1 ok.2.1 hd hz (k ok H locs ls hH hF hl)
theorem x_lshr {a b : Int} (hd : decode M.2.1 pc = .ok (.lshr, 1)) (z : Int) (hz : lI a >>> ((iI b).toInt64 &&& 63) = lI z) (k : V X M B σ R cn sn (pc + 1) L (vl z :: st)) : V X M B σ R cn sn pc L (vi b :: vl a :: st) := by
  obtain ⟨p, l, e, Rm, s, m, args, below, meth, c, N0, D, dA⟩ := X
  intro ok H locs ls hH hF hl
  exact lv_lshr ok.1 ok.2.1 hd hz (k ok H locs ls hH hF hl)
theorem x_i2l {a : Int} (hd : decode M.2.1 pc = .ok (.i2l, 1)) (hz : (iI a).toInt64 = lI a) (k : V X M B σ R cn sn (pc + 1) L (vl a :: st)) : V X M B σ R cn sn pc L (vi a :: st) := by
  obtain ⟨p, l, e, Rm, s, m, args, below, meth, c, N0, D, dA⟩ := X
  intro ok H locs ls hH hF hl
  exact lv_i2l ok.1 ok.2.1 hd hz (k ok H locs ls hH hF hl)
theorem x_l2i {a : Int} (hd : decode M.2.1 pc = .ok (.l2i, 1)) (hz : (lI a).toInt32 = iI a) (k : V X M B σ R cn sn (pc + 1) L (vi a :: st)) : V X M B σ R cn sn pc L (vl a :: st) := by
  obtain ⟨p, l, e, Rm, s, m, args, below, meth, c, N0, D, dA⟩ := X
  intro ok H locs ls hH hF hl
  exact lv_l2i ok.1 ok.2.1 hd hz (k ok H locs ls hH hF hl)
theorem x_i2b {a : Int} (hd : decode M.2.1 pc = .ok (.i2b, 1)) (z : Int) (hz : (iI a).toInt8.toInt32 = iI z) (k : V X M B σ R cn sn (pc + 1) L (vi z :: st)) : V X M B σ R cn sn pc L (vi a :: st) := by
  obtain ⟨p, l, e, Rm, s, m, args, below, meth, c, N0, D, dA⟩ := X
  intro ok H locs ls hH hF hl
  exact lv_i2b ok.1 ok.2.1 hd hz (k ok H locs ls hH hF hl)
theorem x_i2s {a : Int} (hd : decode M.2.1 pc = .ok (.i2s, 1)) (z : Int) (hz : (iI a).toInt16.toInt32 = iI z) (k : V X M B σ R cn sn (pc + 1) L (vi z :: st)) : V X M B σ R cn sn pc L (vi a :: st) := by
  obtain ⟨p, l, e, Rm, s, m, args, below, meth, c, N0, D, dA⟩ := X
  intro ok H locs ls hH hF hl
  exact lv_i2s ok.1 ok.2.1 hd hz (k ok H locs ls hH hF hl)
theorem x_i2c {a : Int} (hd : decode M.2.1 pc = .ok (.i2c, 1)) (z : Int) (hz : ((iI a).toUInt32 % 65536).toInt32 = iI z) (k : V X M B σ R cn sn (pc + 1) L (vi z :: st)) : V X M B σ R cn sn pc L (vi a :: st) := by
  obtain ⟨p, l, e, Rm, s, m, args, below, meth, c, N0, D, dA⟩ := X
  intro ok H locs ls hH hF hl
  exact lv_i2c ok.1 ok.2.1 hd hz (k ok H locs ls hH hF hl)
theorem x_lcmp {a b : Int} (hd : decode M.2.1 pc = .ok (.lcmp, 1)) (z : Int) (hz : lg_cmp (lI a) (lI b) = iI z) (k : V X M B σ R cn sn (pc + 1) L (vi z :: st)) : V X M B σ R cn sn pc L (vl b :: vl a :: st) := by
  obtain ⟨p, l, e, Rm, s, m, args, below, meth, c, N0, D, dA⟩ := X
  intro ok H locs ls hH hF hl
  refine W.lcmp ok.1 ok.2.1 hd ?_
  rw [hz]
  exact k ok H locs ls hH hF hl
theorem x_dup {v : Value} (hd : decode M.2.1 pc = .ok (.dup, 1)) (hv : v.category = 1) (k : V X M B σ R cn sn (pc + 1) L (v :: v :: st)) : V X M B σ R cn sn pc L (v :: st) := by
  obtain ⟨p, l, e, Rm, s, m, args, below, meth, c, N0, D, dA⟩ := X
  intro ok H locs ls hH hF hl
  exact lv_dup ok.1 ok.2.1 hd hv (k ok H locs ls hH hF hl)
theorem x_pop {v : Value} (hd : decode M.2.1 pc = .ok (.pop, 1)) (hv : v.category = 1) (k : V X M B σ R cn sn (pc + 1) L (st)) : V X M B σ R cn sn pc L (v :: st) := by
  obtain ⟨p, l, e, Rm, s, m, args, below, meth, c, N0, D, dA⟩ := X
  intro ok H locs ls hH hF hl
  exact lv_pop ok.1 ok.2.1 hd hv (k ok H locs ls hH hF hl)
theorem x_dup_x1 {v w : Value} (hd : decode M.2.1 pc = .ok (.dup_x1, 1)) (hv : v.category = 1) (hw : w.category = 1) (k : V X M B σ R cn sn (pc + 1) L (v :: w :: v :: st)) : V X M B σ R cn sn pc L (v :: w :: st) := by
  obtain ⟨p, l, e, Rm, s, m, args, below, meth, c, N0, D, dA⟩ := X
  intro ok H locs ls hH hF hl
  exact lv_dup_x1 ok.1 ok.2.1 hd hv hw (k ok H locs ls hH hF hl)
theorem x_dup_x2 {v w u : Value} (hd : decode M.2.1 pc = .ok (.dup_x2, 1)) (hv : v.category = 1) (hw : w.category = 1) (hu : u.category = 1) (k : V X M B σ R cn sn (pc + 1) L (v :: w :: u :: v :: st)) : V X M B σ R cn sn pc L (v :: w :: u :: st) := by
  obtain ⟨p, l, e, Rm, s, m, args, below, meth, c, N0, D, dA⟩ := X
  intro ok H locs ls hH hF hl
  exact lv_dup_x2 ok.1 ok.2.1 hd hv hw hu (k ok H locs ls hH hF hl)
theorem x_dup2 {v w : Value} (hd : decode M.2.1 pc = .ok (.dup2, 1)) (hv : v.category = 1) (hw : w.category = 1) (k : V X M B σ R cn sn (pc + 1) L (v :: w :: v :: w :: st)) : V X M B σ R cn sn pc L (v :: w :: st) := by
  obtain ⟨p, l, e, Rm, s, m, args, below, meth, c, N0, D, dA⟩ := X
  intro ok H locs ls hH hF hl
  exact lv_dup2_11 ok.1 ok.2.1 hd hv hw (k ok H locs ls hH hF hl)
theorem x_if_lt {a off : Int} {tgt : Nat} (hd : decode M.2.1 pc = .ok (.ifCond .lt off, 3)) (ht : (pc : Int) + off = (tgt : Int)) (ra : -2147483648 ≤ a ∧ a < 2147483648) (kt : a < 0 → V X M B σ R cn sn tgt L st) (kf : ¬ a < 0 → V X M B σ R cn sn (pc + 3) L st) : V X M B σ R cn sn pc L (vi a :: st) := by
  obtain ⟨p, l, e, Rm, s, m, args, below, meth, c, N0, D, dA⟩ := X
  intro ok H locs ls hH hF hl
  exact lv_if_lt ok.1 ok.2.1 hd ht (fun q => kt ((iI_lt0 ra).mp q) ok H locs ls hH hF hl) (fun q => kf (fun z => q ((iI_lt0 ra).mpr z)) ok H locs ls hH hF hl)
theorem x_icmp_lt {a b off : Int} {tgt : Nat} (hd : decode M.2.1 pc = .ok (.if_icmp .lt off, 3)) (ht : (pc : Int) + off = (tgt : Int)) (ra : -2147483648 ≤ a ∧ a < 2147483648) (rb : -2147483648 ≤ b ∧ b < 2147483648) (kt : a < b → V X M B σ R cn sn tgt L st) (kf : ¬ a < b → V X M B σ R cn sn (pc + 3) L st) : V X M B σ R cn sn pc L (vi b :: vi a :: st) := by
  obtain ⟨p, l, e, Rm, s, m, args, below, meth, c, N0, D, dA⟩ := X
  intro ok H locs ls hH hF hl
  exact lv_icmp_lt ok.1 ok.2.1 hd ht (fun q => kt ((iI_lt ra rb).mp q) ok H locs ls hH hF hl) (fun q => kf (fun z => q ((iI_lt ra rb).mpr z)) ok H locs ls hH hF hl)
theorem x_if_le {a off : Int} {tgt : Nat} (hd : decode M.2.1 pc = .ok (.ifCond .le off, 3)) (ht : (pc : Int) + off = (tgt : Int)) (ra : -2147483648 ≤ a ∧ a < 2147483648) (kt : a ≤ 0 → V X M B σ R cn sn tgt L st) (kf : ¬ a ≤ 0 → V X M B σ R cn sn (pc + 3) L st) : V X M B σ R cn sn pc L (vi a :: st) := by
  obtain ⟨p, l, e, Rm, s, m, args, below, meth, c, N0, D, dA⟩ := X
  intro ok H locs ls hH hF hl
  exact lv_if_le ok.1 ok.2.1 hd ht (fun q => kt ((iI_le0 ra).mp q) ok H locs ls hH hF hl) (fun q => kf (fun z => q ((iI_le0 ra).mpr z)) ok H locs ls hH hF hl)
theorem x_icmp_le {a b off : Int} {tgt : Nat} (hd : decode M.2.1 pc = .ok (.if_icmp .le off, 3)) (ht : (pc : Int) + off = (tgt : Int)) (ra : -2147483648 ≤ a ∧ a < 2147483648) (rb : -2147483648 ≤ b ∧ b < 2147483648) (kt : a ≤ b → V X M B σ R cn sn tgt L st) (kf : ¬ a ≤ b → V X M B σ R cn sn (pc + 3) L st) : V X M B σ R cn sn pc L (vi b :: vi a :: st) := by
  obtain ⟨p, l, e, Rm, s, m, args, below, meth, c, N0, D, dA⟩ := X
  intro ok H locs ls hH hF hl
  exact lv_icmp_le ok.1 ok.2.1 hd ht (fun q => kt ((iI_le ra rb).mp q) ok H locs ls hH hF hl) (fun q => kf (fun z => q ((iI_le ra rb).mpr z)) ok H locs ls hH hF hl)
theorem x_if_gt {a off : Int} {tgt : Nat} (hd : decode M.2.1 pc = .ok (.ifCond .gt off, 3)) (ht : (pc : Int) + off = (tgt : Int)) (ra : -2147483648 ≤ a ∧ a < 2147483648) (kt : 0 < a → V X M B σ R cn sn tgt L st) (kf : ¬ 0 < a → V X M B σ R cn sn (pc + 3) L st) : V X M B σ R cn sn pc L (vi a :: st) := by
  obtain ⟨p, l, e, Rm, s, m, args, below, meth, c, N0, D, dA⟩ := X
  intro ok H locs ls hH hF hl
  exact lv_if_gt ok.1 ok.2.1 hd ht (fun q => kt ((iI_0lt ra).mp q) ok H locs ls hH hF hl) (fun q => kf (fun z => q ((iI_0lt ra).mpr z)) ok H locs ls hH hF hl)
theorem x_icmp_gt {a b off : Int} {tgt : Nat} (hd : decode M.2.1 pc = .ok (.if_icmp .gt off, 3)) (ht : (pc : Int) + off = (tgt : Int)) (ra : -2147483648 ≤ a ∧ a < 2147483648) (rb : -2147483648 ≤ b ∧ b < 2147483648) (kt : b < a → V X M B σ R cn sn tgt L st) (kf : ¬ b < a → V X M B σ R cn sn (pc + 3) L st) : V X M B σ R cn sn pc L (vi b :: vi a :: st) := by
  obtain ⟨p, l, e, Rm, s, m, args, below, meth, c, N0, D, dA⟩ := X
  intro ok H locs ls hH hF hl
  exact lv_icmp_gt ok.1 ok.2.1 hd ht (fun q => kt ((iI_lt rb ra).mp q) ok H locs ls hH hF hl) (fun q => kf (fun z => q ((iI_lt rb ra).mpr z)) ok H locs ls hH hF hl)
theorem x_if_ge {a off : Int} {tgt : Nat} (hd : decode M.2.1 pc = .ok (.ifCond .ge off, 3)) (ht : (pc : Int) + off = (tgt : Int)) (ra : -2147483648 ≤ a ∧ a < 2147483648) (kt : 0 ≤ a → V X M B σ R cn sn tgt L st) (kf : ¬ 0 ≤ a → V X M B σ R cn sn (pc + 3) L st) : V X M B σ R cn sn pc L (vi a :: st) := by
  obtain ⟨p, l, e, Rm, s, m, args, below, meth, c, N0, D, dA⟩ := X
  intro ok H locs ls hH hF hl
  exact lv_if_ge ok.1 ok.2.1 hd ht (fun q => kt ((iI_0le ra).mp q) ok H locs ls hH hF hl) (fun q => kf (fun z => q ((iI_0le ra).mpr z)) ok H locs ls hH hF hl)
theorem x_icmp_ge {a b off : Int} {tgt : Nat} (hd : decode M.2.1 pc = .ok (.if_icmp .ge off, 3)) (ht : (pc : Int) + off = (tgt : Int)) (ra : -2147483648 ≤ a ∧ a < 2147483648) (rb : -2147483648 ≤ b ∧ b < 2147483648) (kt : b ≤ a → V X M B σ R cn sn tgt L st) (kf : ¬ b ≤ a → V X M B σ R cn sn (pc + 3) L st) : V X M B σ R cn sn pc L (vi b :: vi a :: st) := by
  obtain ⟨p, l, e, Rm, s, m, args, below, meth, c, N0, D, dA⟩ := X
  intro ok H locs ls hH hF hl
  exact lv_icmp_ge ok.1 ok.2.1 hd ht (fun q => kt ((iI_le rb ra).mp q) ok H locs ls hH hF hl) (fun q => kf (fun z => q ((iI_le rb ra).mpr z)) ok H locs ls hH hF hl)
theorem x_if_eq {a off : Int} {tgt : Nat} (hd : decode M.2.1 pc = .ok (.ifCond .eq off, 3)) (ht : (pc : Int) + off = (tgt : Int)) (ra : -2147483648 ≤ a ∧ a < 2147483648) (kt : a = 0 → V X M B σ R cn sn tgt L st) (kf : ¬ a = 0 → V X M B σ R cn sn (pc + 3) L st) : V X M B σ R cn sn pc L (vi a :: st) := by
  obtain ⟨p, l, e, Rm, s, m, args, below, meth, c, N0, D, dA⟩ := X
  intro ok H locs ls hH hF hl
  exact lv_if_eq ok.1 ok.2.1 hd ht (fun q => kt ((iI_eq0 ra).mp q) ok H locs ls hH hF hl) (fun q => kf (fun z => q ((iI_eq0 ra).mpr z)) ok H locs ls hH hF hl)
theorem x_icmp_eq {a b off : Int} {tgt : Nat} (hd : decode M.2.1 pc = .ok (.if_icmp .eq off, 3)) (ht : (pc : Int) + off = (tgt : Int)) (ra : -2147483648 ≤ a ∧ a < 2147483648) (rb : -2147483648 ≤ b ∧ b < 2147483648) (kt : a = b → V X M B σ R cn sn tgt L st) (kf : ¬ a = b → V X M B σ R cn sn (pc + 3) L st) : V X M B σ R cn sn pc L (vi b :: vi a :: st) := by
  obtain ⟨p, l, e, Rm, s, m, args, below, meth, c, N0, D, dA⟩ := X
  intro ok H locs ls hH hF hl
  exact lv_icmp_eq ok.1 ok.2.1 hd ht (fun q => kt ((iI_eq ra rb).mp q) ok H locs ls hH hF hl) (fun q => kf (fun z => q ((iI_eq ra rb).mpr z)) ok H locs ls hH hF hl)
theorem x_if_ne {a off : Int} {tgt : Nat} (hd : decode M.2.1 pc = .ok (.ifCond .ne off, 3)) (ht : (pc : Int) + off = (tgt : Int)) (ra : -2147483648 ≤ a ∧ a < 2147483648) (kt : ¬ a = 0 → V X M B σ R cn sn tgt L st) (kf : a = 0 → V X M B σ R cn sn (pc + 3) L st) : V X M B σ R cn sn pc L (vi a :: st) := by
  obtain ⟨p, l, e, Rm, s, m, args, below, meth, c, N0, D, dA⟩ := X
  intro ok H locs ls hH hF hl
  exact lv_if_ne ok.1 ok.2.1 hd ht (fun q => kt (fun z => q ((iI_eq0 ra).mpr z)) ok H locs ls hH hF hl) (fun q => kf ((iI_eq0 ra).mp (by first | exact q | exact Classical.not_not.mp q)) ok H locs ls hH hF hl)
theorem x_icmp_ne {a b off : Int} {tgt : Nat} (hd : decode M.2.1 pc = .ok (.if_icmp .ne off, 3)) (ht : (pc : Int) + off = (tgt : Int)) (ra : -2147483648 ≤ a ∧ a < 2147483648) (rb : -2147483648 ≤ b ∧ b < 2147483648) (kt : ¬ a = b → V X M B σ R cn sn tgt L st) (kf : a = b → V X M B σ R cn sn (pc + 3) L st) : V X M B σ R cn sn pc L (vi b :: vi a :: st) := by
  obtain ⟨p, l, e, Rm, s, m, args, below, meth, c, N0, D, dA⟩ := X
  intro ok H locs ls hH hF hl
  exact lv_icmp_ne ok.1 ok.2.1 hd ht (fun q => kt (fun z => q ((iI_eq ra rb).mpr z)) ok H locs ls hH hF hl) (fun q => kf ((iI_eq ra rb).mp (by first | exact q | exact Classical.not_not.mp q)) ok H locs ls hH hF hl)
theorem x_goto {off : Int} {tgt : Nat} (hd : decode M.2.1 pc = .ok (.goto off, 3)) (ht : (pc : Int) + off = (tgt : Int)) (k : V X M B σ R cn sn tgt L st) : V X M B σ R cn sn pc L (st) := by
  obtain ⟨p, l, e, Rm, s, m, args, below, meth, c, N0, D, dA⟩ := X
  intro ok H locs ls hH hF hl
  exact lv_goto ok.1 ok.2.1 hd ht (k ok H locs ls hH hF hl)
theorem x_ifnonnull {a : Nat} {off : Int} {tgt : Nat} (hd : decode M.2.1 pc = .ok (.ifnonnull off, 3)) (ht : (pc : Int) + off = (tgt : Int)) (k : V X M B σ R cn sn tgt L st) : V X M B σ R cn sn pc L (.ref a :: st) := by
  obtain ⟨p, l, e, Rm, s, m, args, below, meth, c, N0, D, dA⟩ := X
  intro ok H locs ls hH hF hl
  exact lv_ifnonnull ok.1 ok.2.1 hd ht (k ok H locs ls hH hF hl)
theorem x_ifnull {a : Nat} {off : Int} (hd : decode M.2.1 pc = .ok (.ifnull off, 3)) (k : V X M B σ R cn sn (pc + 3) L (st)) : V X M B σ R cn sn pc L (.ref a :: st) := by
  obtain ⟨p, l, e, Rm, s, m, args, below, meth, c, N0, D, dA⟩ := X
  intro ok H locs ls hH hF hl
  exact lv_ifnull ok.1 ok.2.1 hd (k ok H locs ls hH hF hl)
theorem x_acmp_eq {a b : Nat} {off : Int} {tgt : Nat} (hd : decode M.2.1 pc = .ok (.if_acmp .eq off, 3)) (ht : (pc : Int) + off = (tgt : Int)) (kt : a = b → V X M B σ R cn sn tgt L st) (kf : ¬ a = b → V X M B σ R cn sn (pc + 3) L st) : V X M B σ R cn sn pc L (.ref b :: .ref a :: st) := by
  obtain ⟨p, l, e, Rm, s, m, args, below, meth, c, N0, D, dA⟩ := X
  intro ok H locs ls hH hF hl
  exact lv_acmp_eq (rx := some a) (ry := some b) ok.1 ok.2.1 hd ht (fun q => kt (Option.some.inj q) ok H locs ls hH hF hl) (fun q => kf (fun z => q (congrArg some z)) ok H locs ls hH hF hl)
theorem x_acmp_ne {a b : Nat} {off : Int} {tgt : Nat} (hd : decode M.2.1 pc = .ok (.if_acmp .ne off, 3)) (ht : (pc : Int) + off = (tgt : Int)) (kt : ¬ a = b → V X M B σ R cn sn tgt L st) (kf : a = b → V X M B σ R cn sn (pc + 3) L st) : V X M B σ R cn sn pc L (.ref b :: .ref a :: st) := by
  obtain ⟨p, l, e, Rm, s, m, args, below, meth, c, N0, D, dA⟩ := X
  intro ok H locs ls hH hF hl
  exact lv_acmp_ne (rx := some a) (ry := some b) ok.1 ok.2.1 hd ht (fun q => kt (fun z => q (congrArg some z)) ok H locs ls hH hF hl) (fun q => kf (Option.some.inj q) ok H locs ls hH hF hl)
theorem x_iret {a : Int} (hd : decode M.2.1 pc = .ok (.ireturn, 1)) (hr : M.2.2.2 = some .int) (hc : cn ≤ B.2.1) (hs : sn ≤ B.2.2.1) (hz : B.2.2.2 (.returned (some (vi a))) σ R) : V X M B σ R cn sn pc L [vi a] := by
  obtain ⟨p, l, e, Rm, s, m, args, below, meth, c, N0, D, dA⟩ := X
  intro ok H locs ls hH hF hl
  refine W.widen hc hs ?_
  refine xW ?_
  exact W.iret ok.1 ok.2.1 (ok.2.2.2.1.trans hr) (fun t ht _ => ⟨⟨σ, R, hz, by rw [ht]; exact hH⟩, by rw [ht]; exact hF.1, fun q hq => by rw [ht]; exact hF.2.1 q hq⟩) hF.2.2 hd ok.2.2.2.2.2.2.2.1
theorem x_zret {a : Int} {ty : FieldType} (hd : decode M.2.1 pc = .ok (.ireturn, 1)) (hr : M.2.2.2 = some ty) (hn : narrow ty (vi a) = vi a) (hc : cn ≤ B.2.1) (hs : sn ≤ B.2.2.1) (hz : B.2.2.2 (.returned (some (vi a))) σ R) : V X M B σ R cn sn pc L [vi a] := by
  obtain ⟨p, l, e, Rm, s, m, args, below, meth, c, N0, D, dA⟩ := X
  intro ok H locs ls hH hF hl
  refine W.widen hc hs ?_
  refine xW ?_
  exact W.zret ok.1 ok.2.1 (ok.2.2.2.1.trans hr) hn (fun t ht _ => ⟨⟨σ, R, hz, by rw [ht]; exact hH⟩, by rw [ht]; exact hF.1, fun q hq => by rw [ht]; exact hF.2.1 q hq⟩) hF.2.2 hd ok.2.2.2.2.2.2.2.1
theorem x_vret (hd : decode M.2.1 pc = .ok (.return_, 1)) (hr : M.2.2.2 = none) (hc : cn ≤ B.2.1) (hs : sn ≤ B.2.2.1) (hz : B.2.2.2 (.returned none) σ R) : V X M B σ R cn sn pc L [] := by
  obtain ⟨p, l, e, Rm, s, m, args, below, meth, c, N0, D, dA⟩ := X
  intro ok H locs ls hH hF hl
  refine W.widen hc hs ?_
  refine xW ?_
  exact W.vret ok.1 ok.2.1 (ok.2.2.2.1.trans hr) (fun t ht _ => ⟨⟨σ, R, hz, by rw [ht]; exact hH⟩, by rw [ht]; exact hF.1, fun q hq => by rw [ht]; exact hF.2.1 q hq⟩) hF.2.2 hd ok.2.2.2.2.2.2.2.1
theorem x_aret {v : Value} {rt : FieldType} (hd : decode M.2.1 pc = .ok (.areturn, 1)) (hr : M.2.2.2 = some rt) (hrt : (∃ n, rt = .object n) ∨ ∃ t, rt = .array t) (hv : v = .null ∨ ∃ a, v = .ref a) (hc : cn ≤ B.2.1) (hs : sn ≤ B.2.2.1) (hz : B.2.2.2 (.returned (some v)) σ R) : V X M B σ R cn sn pc L [v] := by
  obtain ⟨p, l, e, Rm, s, m, args, below, meth, c, N0, D, dA⟩ := X
  intro ok H locs ls hH hF hl
  refine W.widen hc hs ?_
  refine xW ?_
  exact W.aret ok.1 ok.2.1 (ok.2.2.2.1.trans hr) hrt hv (fun t ht _ => ⟨⟨σ, R, hz, by rw [ht]; exact hH⟩, by rw [ht]; exact hF.1, fun q hq => by rw [ht]; exact hF.2.1 q hq⟩) hF.2.2 hd ok.2.2.2.2.2.2.2.1
theorem xOb {D : va_G} {dA : FieldType → ClassId} {N0 : Nat} {H : Heap} (hH : xH D dA N0 σ R H) {k : Int} {t n ci : Nat} {C : String} {T : u_T} {N : Nat} (hs : (σ k).2 = (t, n)) (h0 : t ≠ 0) (ht : t < 32) (hci : (t - 1) % 16 = ci) (hc : xcl[ci]? = some (C, T, N)) :
    N0 ≤ (σ k).1 ∧ t_OB (σ k).1 (D.1 ci) N (D.2 ci) H (fun j => xV σ k (xkd t j) (R k (j : Int))) := by
  have e1 : (σ k).2.1 = t := congrArg Prod.fst hs
  have h := hH.1 k (by rw [e1]; exact h0)
  refine ⟨h.1, ?_⟩
  have h2 := h.2.1
  unfold xAt at h2
  rw [e1, if_pos ht, hci] at h2
  obtain ⟨r, h3, h4⟩ := h2
  cases h3.symm.trans hc
  exact h4
theorem xAr {D : va_G} {dA : FieldType → ClassId} {N0 : Nat} {H : Heap} (hH : xH D dA N0 σ R H) {k : Int} {t n : Nat} (hs : (σ k).2 = (t, n)) (ht : ¬ t < 32) :
    N0 ≤ (σ k).1 ∧ H[(σ k).1]? = some (arrV (dA (xel t)) n (fun j => xV σ k (xkd t j) (R k (j : Int)))) := by
  have e1 : (σ k).2.1 = t := congrArg Prod.fst hs
  have e2 : (σ k).2.2 = n := congrArg Prod.snd hs
  have h := hH.1 k (by rw [e1]; omega)
  refine ⟨h.1, ?_⟩
  have h2 := h.2.1
  unfold xAt at h2
  rw [e1, e2, if_neg ht] at h2
  exact h2
theorem xup_ne {k i z a : Int} (h : a ≠ k) : xup R k i z a = R a := by
  funext b
  unfold xup
  rw [if_neg (fun q => h q.1)]
/-- one slot of region k is written -/
theorem xH.set {D : va_G} {dA : FieldType → ClassId} {N0 : Nat} {H H1 : Heap} (hH : xH D dA N0 σ R H) {k i z : Int} (hp : (σ k).2.1 ≠ 0) (ho : ∀ q, q ≠ (σ k).1 → H1[q]? = H[q]?) (hk : xAt D dA σ (xup R k i z) k H1) : xH D dA N0 σ (xup R k i z) H1 := by
  refine ⟨fun a ha => ?_, hH.2⟩
  obtain ⟨h1, h2, h3⟩ := hH.1 a ha
  refine ⟨h1, ?_, h3⟩
  by_cases e : a = k
  · subst e; exact hk
  · exact h2.kept rfl (xup_ne e) (fun _ _ _ _ => rfl) (ho _ (fun q => e (hH.2.1 a k ha hp q)))
theorem x_get (k : Int) (j : Nat) {t n ci a idx : Nat} {C ref : String} {T : u_T} {N : Nat} {v : Value} (hs : (σ k).2 = (t, n)) (ha : (σ k).1 = a) (h0 : t ≠ 0 ∧ t < 32 ∧ (t - 1) % 16 = ci) (hc : xcl[ci]? = some (C, T, N)) (hj : j < N) (hin : ∀ w ∈ u_ws C T N, w ∈ xtb)
    (hlink : Cond.fieldLink M.1.cls idx ref (T j).2.1 (T j).2.2.1 ∈ xtb) (hsame : ref = (T j).1 ∨ Cond.sameField ref (T j).1 (T j).2.1 (T j).2.2.1 ∈ xtb) (hd : decode M.2.1 pc = .ok (.getfield idx, 3)) (hv : xV σ k (xkd t j) (R k (j : Int)) = v)
    (kk : V X M B σ R cn sn (pc + 3) L (v :: st)) : V X M B σ R cn sn pc L (.ref a :: st) := by
  obtain ⟨p, l, e, Rm, s, m, args, below, meth, c, N0, D, dA⟩ := X
  intro ok H locs ls hH hF hl
  obtain ⟨-, cell, q1, q2, q3, q4⟩ := xOb hH hs h0.1 h0.2.1 h0.2.2 hc
  subst ha
  have hts := ok.2.2.2.2.2.1
  obtain ⟨hS, hfc, kC, hkC, hkind⟩ := ok.2.2.2.2.2.2.1.1.1 ci _ hc
  obtain ⟨cf, kf, fi, f, hi, hsl⟩ := hS j hj
  have hi' : s.fieldFound? ref (T j).2.1 (T j).2.2.1 = some (cf, kf, fi, f) := by
    rcases hsame with h | h
    · rw [h]; exact hi
    · exact u_same (hts _ h) _ hi
  refine W.getf ok.1 ok.2.1 ok.2.2.2.2.1 (hts _ hlink) hi' (u_facts hfc hkC (u_lays hts hin hj) hi).1 q1 (by rw [q3]; exact fun h => by cases h) (v := v) ?_ rfl rfl hd (kk ok H locs ls hH hF hl)
  rw [hsl, q4 j hj]
  exact congrArg some hv
theorem xapart {D : va_G} {dA : FieldType → ClassId} {s : State} {args : Array Value} {ci : Nat} {C : String} {T : u_T} {N : Nat} (hts : ∀ w ∈ xtb, w.before args s = true) (hin : ∀ w ∈ u_ws C T N, w ∈ xtb) (ty : Nat → FieldType) (hty : ∀ k, k < N → parseFieldDescriptor (T k).2.2.1 = some (ty k)) (hnm : ∀ a, a < N → ∀ b, b < N → a ≠ b → (T a).2.1 ≠ (T b).2.1) (hK : xG D dA s) (hc : xcl[ci]? = some (C, T, N)) : ∀ x y, x < N → y < N → x ≠ y → (D.2 ci) x ≠ (D.2 ci) y := by
  intro x y hx hy hne
  obtain ⟨hS, -⟩ := hK.1 ci _ hc
  obtain ⟨_, _, _, fa, hia, ea⟩ := hS x hx
  obtain ⟨_, _, _, fb, hib, eb⟩ := hS y hy
  rw [← ea, ← eb]
  refine u_apart (u_lays hts hin hx) (u_lays hts hin hy) hia hib ?_
  rw [(State.fieldFound?_type hia (hty x hx)).1, (State.fieldFound?_type hib (hty y hy)).1]
  exact hnm x hx y hy hne
theorem xAt.setOb {D : va_G} {dA : FieldType → ClassId} {H1 : Heap} {k : Int} {j t n ci N : Nat} {C : String} {T : u_T} {z : Int} {v : Value} {cell : Cell} (hs : (σ k).2 = (t, n)) (ht : t < 32) (hci : (t - 1) % 16 = ci) (hc : xcl[ci]? = some (C, T, N)) (hj : j < N)
    (hap : ∀ x y, x < N → y < N → x ≠ y → (D.2 ci) x ≠ (D.2 ci) y) (e1 : H1[(σ k).1]? = some (cell.setSlot (D.2 ci j) v)) (q2 : cell.cls = D.1 ci) (q3 : cell.vm = .none) (q4 : ∀ x, x < N → cell.slots[D.2 ci x]? = some (xV σ k (xkd t x) (R k (x : Int)))) (hv : xV σ k (xkd t j) z = v) : xAt D dA σ (xup R k (j : Int) z) k H1 := by
  have e0 : (σ k).2.1 = t := congrArg Prod.fst hs
  unfold xAt
  rw [e0, if_pos ht, hci]
  refine ⟨_, hc, t_OB.to (V := updV (fun x => xV σ k (xkd t x) (R k (x : Int))) j v) ⟨_, e1, q2, q3, t_set q4 hap hj v⟩ (fun x _ => ?_)⟩
  by_cases hx : x = j
  · subst hx
    simp [updV, xup, hv]
  · have hx' : ¬ ((x : Int) = (j : Int)) := by omega
    simp [updV, xup, hx, hx']
theorem x_put (k : Int) (j : Nat) (ji z : Int) {t n ci a idx : Nat} {C ref : String} {T : u_T} {N : Nat} {v : Value} (ty0 : Nat → FieldType) (hs : (σ k).2 = (t, n)) (ha : (σ k).1 = a) (h0 : t ≠ 0 ∧ t < 32 ∧ (t - 1) % 16 = ci) (hc : xcl[ci]? = some (C, T, N)) (hj : j < N) (hji : (j : Int) = ji) (hin : ∀ w ∈ u_ws C T N, w ∈ xtb)
    (hty : ∀ k, k < N → parseFieldDescriptor (T k).2.2.1 = some (ty0 k)) (hnm : ∀ a, a < N → ∀ b, b < N → a ≠ b → (T a).2.1 ≠ (T b).2.1)
    (hlink : Cond.fieldLink M.1.cls idx ref (T j).2.1 (T j).2.2.1 ∈ xtb) (hsame : ref = (T j).1 ∨ Cond.sameField ref (T j).1 (T j).2.1 (T j).2.2.1 ∈ xtb) (hfin : (T j).2.2.2 = false) (hd : decode M.2.1 pc = .ok (.putfield idx, 3)) (hv : xV σ k (xkd t j) z = v) (hnar : narrow (ty0 j) v = v ∧ fits (ty0 j) v = true)
    (kk : ∀ R1, R1 = xup R k ji z → V X M B σ R1 cn sn (pc + 3) L st) : V X M B σ R cn sn pc L (v :: .ref a :: st) := by
  obtain ⟨p, l, e, Rm, s, m, args, below, meth, c, N0, D, dA⟩ := X
  intro ok H locs ls hH hF hl
  obtain ⟨hN, cell, q1, q2, q3, q4⟩ := xOb hH hs h0.1 h0.2.1 h0.2.2 hc
  subst ha
  subst hji
  have hts := ok.2.2.2.2.2.1
  have hap := xapart hts hin ty0 hty hnm ok.2.2.2.2.2.2.1.1 hc
  obtain ⟨hS, hfc, kC, hkC, hkind⟩ := ok.2.2.2.2.2.2.1.1.1 ci _ hc
  obtain ⟨cf, kf, fi, f, hi, hsl⟩ := hS j hj
  have hlay := hts _ (hin _ (u_in_lay hj))
  unfold u_lay at hlay
  rw [if_neg (by rw [hfin]; decide)] at hlay
  have hst := (u_facts hfc hkC (u_lays hts hin hj) hi).1
  have h6 := u_store hfc hkC hkind hlay hi (hty j hj) hnar.1 hnar.2
  have hi' : s.fieldFound? ref (T j).2.1 (T j).2.2.1 = some (cf, kf, fi, f) := by
    rcases hsame with h | h
    · rw [h]; exact hi
    · exact u_same (hts _ h) _ hi
  refine W.putK ok.1 ok.2.1 (f := f) ⟨ok.2.2.2.2.1, hts _ hlink, ⟨_, _, _, hi'⟩, hst⟩ (by rw [q2]; exact h6) q1 q3 (by rw [hsl]; exact k2_hasslot (q4 j hj)) rfl rfl hd fun H' e1 e2 e3 => ?_
  rw [hsl] at e1 ⊢
  exact kk _ rfl ok H' _ ls (hH.set (by rw [hs]; exact h0.1) e3 (xAt.setOb hs h0.2.1 h0.2.2 hc hj hap e1 q2 q3 q4 hv)) (hF.put e2 e3 hN) hl
theorem x_putF (k : Int) (j : Nat) (ji z : Int) {t n ci a idx : Nat} {C ref : String} {T : u_T} {N : Nat} {v : Value} (ty0 : Nat → FieldType) (hs : (σ k).2 = (t, n)) (ha : (σ k).1 = a) (h0 : t ≠ 0 ∧ t < 32 ∧ (t - 1) % 16 = ci) (hc : xcl[ci]? = some (C, T, N)) (hj : j < N) (hji : (j : Int) = ji) (hin : ∀ w ∈ u_ws C T N, w ∈ xtb)
    (hty : ∀ k, k < N → parseFieldDescriptor (T k).2.2.1 = some (ty0 k)) (hnm : ∀ a, a < N → ∀ b, b < N → a ≠ b → (T a).2.1 ≠ (T b).2.1)
    (hlink : Cond.fieldLink M.1.cls idx ref (T j).2.1 (T j).2.2.1 ∈ xtb) (hsame : ref = (T j).1) (hfin : (T j).2.2.2 = true) (hin2 : M.1.name = "<init>") (hdecl : (T j).1 = M.1.cls) (hd : decode M.2.1 pc = .ok (.putfield idx, 3)) (hv : xV σ k (xkd t j) z = v) (hnar : narrow (ty0 j) v = v ∧ fits (ty0 j) v = true)
    (kk : ∀ R1, R1 = xup R k ji z → V X M B σ R1 cn sn (pc + 3) L st) : V X M B σ R cn sn pc L (v :: .ref a :: st) := by
  obtain ⟨p, l, e, Rm, s, m, args, below, meth, c, N0, D, dA⟩ := X
  intro ok H locs ls hH hF hl
  obtain ⟨hN, cell, q1, q2, q3, q4⟩ := xOb hH hs h0.1 h0.2.1 h0.2.2 hc
  subst ha
  subst hji
  have hts := ok.2.2.2.2.2.1
  have hown := ok.2.2.2.2.1
  have hap := xapart hts hin ty0 hty hnm ok.2.2.2.2.2.2.1.1 hc
  obtain ⟨hS, hfc, kC, hkC, hkind⟩ := ok.2.2.2.2.2.2.1.1.1 ci _ hc
  obtain ⟨cf, kf, fi, f, hi, hsl⟩ := hS j hj
  have hlay := hts _ (hin _ (u_in_lay hj))
  unfold u_lay at hlay
  rw [if_pos hfin] at hlay
  have hst := (u_facts hfc hkC (u_lays hts hin hj) hi).1
  have hcf : m.cls = cf := by
    obtain ⟨_, _, c', _, _, _, -, -, hf', -, -, -, hown2, -⟩ := Cond.laysFinal_spec hlay
    have e1 : c' = cf := by have := hi.symm.trans hf'; simp at this; exact this.1.symm
    rw [hdecl] at hown2
    rw [← e1]; exact Option.some.inj (hown.symm.trans hown2)
  have h6 := u_fits hfc hkC hkind (Or.inr hlay) hi (hty j hj) hnar.1 hnar.2
  subst hsame
  refine W.putFinK ok.1 ok.2.1 hown (hts _ hlink) hi hst hcf (ok.2.2.2.2.2.2.2.2.2.1.trans hin2) (by rw [q2]; exact h6) q1 q3 (by rw [hsl]; exact k2_hasslot (q4 j hj)) rfl rfl hd fun H' e1 e2 e3 => ?_
  rw [hsl] at e1 ⊢
  exact kk _ rfl ok H' _ ls (hH.set (by rw [hs]; exact h0.1) e3 (xAt.setOb hs h0.2.1 h0.2.2 hc hj hap e1 q2 q3 q4 hv)) (hF.put e2 e3 hN) hl
theorem xarrOf {D : va_G} {dA : FieldType → ClassId} {s : State} (h : xG D dA s) {ty : FieldType} (hty : ty ∈ xfts) (n : Nat) (z : Nat → Value) : s.isArrayOf (arrV (dA ty) n z) ty := (h.2 ty hty).1 n z
theorem xel_in (t : Nat) : xel t ∈ xfts := by
  unfold xel
  split <;> decide
theorem x_len (k : Int) {t n a : Nat} (hs : (σ k).2 = (t, n)) (ha : (σ k).1 = a) (ht : ¬ t < 32) (hd : decode M.2.1 pc = .ok (.arraylength, 1)) (kk : V X M B σ R cn sn (pc + 1) L (vi (n : Int) :: st)) : V X M B σ R cn sn pc L (.ref a :: st) := by
  obtain ⟨p, l, e, Rm, s, m, args, below, meth, c, N0, D, dA⟩ := X
  intro ok H locs ls hH hF hl
  obtain ⟨hN, q1⟩ := xAr hH hs ht
  subst ha
  refine W.alen (n := iI (n : Int)) ok.1 ok.2.1 q1 (xarrOf ok.2.2.2.2.2.2.1.1 (xel_in t) _ _) ?_ rfl rfl hd (kk ok H locs ls hH hF hl)
  rw [arrV_size, iI_nat]
  rfl
theorem xAt.setAr {D : va_G} {dA : FieldType → ClassId} {H1 : Heap} {k : Int} {t n : Nat} {i z : Int} {v : Value} (hs : (σ k).2 = (t, n)) (ht : ¬ t < 32) (hi : 0 ≤ i ∧ i < n) (e1 : H1[(σ k).1]? = some ((arrV (dA (xel t)) n (fun j => xV σ k (xkd t j) (R k (j : Int)))).setSlot i.toNat v)) (hv : xV σ k (xkd t i.toNat) z = v) : xAt D dA σ (xup R k i z) k H1 := by
  have h1 : (σ k).2.1 = t := congrArg Prod.fst hs
  have h2 : (σ k).2.2 = n := congrArg Prod.snd hs
  unfold xAt
  rw [h1, h2, if_neg ht, e1, arrV_store]
  congr 2
  funext q
  by_cases hq : q = i.toNat
  · subst hq
    have e : ((i.toNat : Nat) : Int) = i := by omega
    simp [updV, xup, hv, e]
  · have hx' : ¬ ((q : Int) = i) := by omega
    simp [updV, xup, hq, hx']
theorem x_iald (k : Int) {i : Int} (z : Int) {t n a : Nat} (hs : (σ k).2 = (t, n)) (ha : (σ k).1 = a) (ht : ¬ t < 32 ∧ xel t = .int ∧ n < 2147483648) (hkd : xkd t i.toNat = 0) (hi : 0 ≤ i ∧ i < n) (hz : R k i = z) (hd : decode M.2.1 pc = .ok (.iaload, 1)) (kk : V X M B σ R cn sn (pc + 1) L (vi z :: st)) : V X M B σ R cn sn pc L (vi i :: .ref a :: st) := by
  obtain ⟨p, l, e, Rm, s, m, args, below, meth, c, N0, D, dA⟩ := X
  intro ok H locs ls hH hF hl
  obtain ⟨hN, q1⟩ := xAr hH hs ht.1
  subst ha
  subst hz
  have hel := ht.2.1
  rw [hel] at q1
  refine W.iald (v := vi (R k i)) ok.1 ok.2.1 q1 (xarrOf ok.2.2.2.2.2.2.1.1 (hel ▸ xel_in t) _ _) (fun q => by cases q) (by rw [arrV_size]; exact iI_in hi ht.2.2) ?_ rfl rfl hd (kk ok H locs ls hH hF hl)
  rw [iI_clamp (by omega), arrV_read _ _ (by omega), hkd]
  show some (xV σ k 0 (R k ((i.toNat : Nat) : Int))) = _
  rw [show ((i.toNat : Nat) : Int) = i by omega]
  rfl
theorem x_zald (k : Int) {i : Int} (z : Int) {t n a : Nat} (hs : (σ k).2 = (t, n)) (ha : (σ k).1 = a) (ht : ¬ t < 32 ∧ xel t = .boolean ∧ n < 2147483648) (hkd : xkd t i.toNat = 0) (hi : 0 ≤ i ∧ i < n) (hz : R k i = z) (hd : decode M.2.1 pc = .ok (.baload, 1)) (kk : V X M B σ R cn sn (pc + 1) L (vi z :: st)) : V X M B σ R cn sn pc L (vi i :: .ref a :: st) := by
  obtain ⟨p, l, e, Rm, s, m, args, below, meth, c, N0, D, dA⟩ := X
  intro ok H locs ls hH hF hl
  obtain ⟨hN, q1⟩ := xAr hH hs ht.1
  subst ha
  subst hz
  have hel := ht.2.1
  rw [hel] at q1
  refine W.zald (v := vi (R k i)) ok.1 ok.2.1 q1 (xarrOf ok.2.2.2.2.2.2.1.1 (hel ▸ xel_in t) _ _) (fun q => by cases q) (by rw [arrV_size]; exact iI_in hi ht.2.2) ?_ rfl rfl hd (kk ok H locs ls hH hF hl)
  rw [iI_clamp (by omega), arrV_read _ _ (by omega), hkd]
  show some (xV σ k 0 (R k ((i.toNat : Nat) : Int))) = _
  rw [show ((i.toNat : Nat) : Int) = i by omega]
  rfl
theorem x_bald (k : Int) {i : Int} (z : Int) {t n a : Nat} (hs : (σ k).2 = (t, n)) (ha : (σ k).1 = a) (ht : ¬ t < 32 ∧ xel t = .byte ∧ n < 2147483648) (hkd : xkd t i.toNat = 0) (hi : 0 ≤ i ∧ i < n) (hz : R k i = z) (hd : decode M.2.1 pc = .ok (.baload, 1)) (kk : V X M B σ R cn sn (pc + 1) L (vi z :: st)) : V X M B σ R cn sn pc L (vi i :: .ref a :: st) := by
  obtain ⟨p, l, e, Rm, s, m, args, below, meth, c, N0, D, dA⟩ := X
  intro ok H locs ls hH hF hl
  obtain ⟨hN, q1⟩ := xAr hH hs ht.1
  subst ha
  subst hz
  have hel := ht.2.1
  rw [hel] at q1
  refine W.bald (v := vi (R k i)) ok.1 ok.2.1 q1 (xarrOf ok.2.2.2.2.2.2.1.1 (hel ▸ xel_in t) _ _) (fun q => by cases q) (by rw [arrV_size]; exact iI_in hi ht.2.2) ?_ rfl rfl hd (kk ok H locs ls hH hF hl)
  rw [iI_clamp (by omega), arrV_read _ _ (by omega), hkd]
  show some (xV σ k 0 (R k ((i.toNat : Nat) : Int))) = _
  rw [show ((i.toNat : Nat) : Int) = i by omega]
  rfl
theorem x_cald (k : Int) {i : Int} (z : Int) {t n a : Nat} (hs : (σ k).2 = (t, n)) (ha : (σ k).1 = a) (ht : ¬ t < 32 ∧ xel t = .char ∧ n < 2147483648) (hkd : xkd t i.toNat = 0) (hi : 0 ≤ i ∧ i < n) (hz : R k i = z) (hd : decode M.2.1 pc = .ok (.caload, 1)) (kk : V X M B σ R cn sn (pc + 1) L (vi z :: st)) : V X M B σ R cn sn pc L (vi i :: .ref a :: st) := by
  obtain ⟨p, l, e, Rm, s, m, args, below, meth, c, N0, D, dA⟩ := X
  intro ok H locs ls hH hF hl
  obtain ⟨hN, q1⟩ := xAr hH hs ht.1
  subst ha
  subst hz
  have hel := ht.2.1
  rw [hel] at q1
  refine W.cald (v := vi (R k i)) ok.1 ok.2.1 q1 (xarrOf ok.2.2.2.2.2.2.1.1 (hel ▸ xel_in t) _ _) (fun q => by cases q) (by rw [arrV_size]; exact iI_in hi ht.2.2) ?_ rfl rfl hd (kk ok H locs ls hH hF hl)
  rw [iI_clamp (by omega), arrV_read _ _ (by omega), hkd]
  show some (xV σ k 0 (R k ((i.toNat : Nat) : Int))) = _
  rw [show ((i.toNat : Nat) : Int) = i by omega]
  rfl
theorem x_sald (k : Int) {i : Int} (z : Int) {t n a : Nat} (hs : (σ k).2 = (t, n)) (ha : (σ k).1 = a) (ht : ¬ t < 32 ∧ xel t = .short ∧ n < 2147483648) (hkd : xkd t i.toNat = 0) (hi : 0 ≤ i ∧ i < n) (hz : R k i = z) (hd : decode M.2.1 pc = .ok (.saload, 1)) (kk : V X M B σ R cn sn (pc + 1) L (vi z :: st)) : V X M B σ R cn sn pc L (vi i :: .ref a :: st) := by
  obtain ⟨p, l, e, Rm, s, m, args, below, meth, c, N0, D, dA⟩ := X
  intro ok H locs ls hH hF hl
  obtain ⟨hN, q1⟩ := xAr hH hs ht.1
  subst ha
  subst hz
  have hel := ht.2.1
  rw [hel] at q1
  refine W.sald (v := vi (R k i)) ok.1 ok.2.1 q1 (xarrOf ok.2.2.2.2.2.2.1.1 (hel ▸ xel_in t) _ _) (fun q => by cases q) (by rw [arrV_size]; exact iI_in hi ht.2.2) ?_ rfl rfl hd (kk ok H locs ls hH hF hl)
  rw [iI_clamp (by omega), arrV_read _ _ (by omega), hkd]
  show some (xV σ k 0 (R k ((i.toNat : Nat) : Int))) = _
  rw [show ((i.toNat : Nat) : Int) = i by omega]
  rfl
theorem x_lald (k : Int) {i : Int} (z : Int) {t n a : Nat} (hs : (σ k).2 = (t, n)) (ha : (σ k).1 = a) (ht : ¬ t < 32 ∧ xel t = .long ∧ n < 2147483648) (hkd : xkd t i.toNat = 1) (hi : 0 ≤ i ∧ i < n) (hz : R k i = z) (hd : decode M.2.1 pc = .ok (.laload, 1)) (kk : V X M B σ R cn sn (pc + 1) L (vl z :: st)) : V X M B σ R cn sn pc L (vi i :: .ref a :: st) := by
  obtain ⟨p, l, e, Rm, s, m, args, below, meth, c, N0, D, dA⟩ := X
  intro ok H locs ls hH hF hl
  obtain ⟨hN, q1⟩ := xAr hH hs ht.1
  subst ha
  subst hz
  have hel := ht.2.1
  rw [hel] at q1
  refine W.lald (v := vl (R k i)) ok.1 ok.2.1 q1 (xarrOf ok.2.2.2.2.2.2.1.1 (hel ▸ xel_in t) _ _) (fun q => by cases q) (by rw [arrV_size]; exact iI_in hi ht.2.2) ?_ rfl rfl hd (kk ok H locs ls hH hF hl)
  rw [iI_clamp (by omega), arrV_read _ _ (by omega), hkd]
  show some (xV σ k 1 (R k ((i.toNat : Nat) : Int))) = _
  rw [show ((i.toNat : Nat) : Int) = i by omega]
  rfl
theorem x_aald (k : Int) {i : Int} {t n a : Nat} {v : Value} (hs : (σ k).2 = (t, n)) (ha : (σ k).1 = a) (ht : ¬ t < 32 ∧ (xel t).isReference = true ∧ n < 2147483648) (hi : 0 ≤ i ∧ i < n) (hv : xV σ k (xkd t i.toNat) (R k i) = v) (hd : decode M.2.1 pc = .ok (.aaload, 1)) (kk : V X M B σ R cn sn (pc + 1) L (v :: st)) : V X M B σ R cn sn pc L (vi i :: .ref a :: st) := by
  obtain ⟨p, l, e, Rm, s, m, args, below, meth, c, N0, D, dA⟩ := X
  intro ok H locs ls hH hF hl
  obtain ⟨hN, q1⟩ := xAr hH hs ht.1
  subst ha
  refine W.aald (v := v) ok.1 ok.2.1 q1 (xarrOf ok.2.2.2.2.2.2.1.1 (xel_in t) _ _) ht.2.1 (fun q => by cases q) (by rw [arrV_size]; exact iI_in hi ht.2.2) ?_ rfl rfl hd (kk ok H locs ls hH hF hl)
  rw [iI_clamp (by omega), arrV_read _ _ (by omega)]
  show some (xV σ k _ (R k ((i.toNat : Nat) : Int))) = _
  rw [show ((i.toNat : Nat) : Int) = i by omega, hv]
theorem x_iast (k : Int) {i z : Int} {t n a : Nat} (hs : (σ k).2 = (t, n)) (ha : (σ k).1 = a) (ht : ¬ t < 32 ∧ xel t = .int ∧ n < 2147483648) (hkd : xkd t i.toNat = 0) (hi : 0 ≤ i ∧ i < n) (hd : decode M.2.1 pc = .ok (.iastore, 1)) (kk : ∀ R1, R1 = xup R k i z → V X M B σ R1 cn sn (pc + 1) L st) : V X M B σ R cn sn pc L (vi z :: vi i :: .ref a :: st) := by
  obtain ⟨p, l, e, Rm, s, m, args, below, meth, c, N0, D, dA⟩ := X
  intro ok H locs ls hH hF hl
  obtain ⟨hN, q1⟩ := xAr hH hs ht.1
  subst ha
  have hel := ht.2.1
  have q1' := q1
  rw [hel] at q1'
  refine W.iast ok.1 ok.2.1 q1' (xarrOf ok.2.2.2.2.2.2.1.1 (hel ▸ xel_in t) _ _) (fun q => by cases q) (by rw [arrV_size]; exact iI_in hi ht.2.2) rfl rfl hd fun H1 e1 e2 e3 => ?_
  rw [iI_clamp (by omega)] at e1
  rw [iI_clamp (by omega)]
  exact kk _ rfl ok H1 _ ls (hH.set (by rw [hs]; show t ≠ 0; omega) e3 (xAt.setAr hs ht.1 hi (by rw [hel]; exact e1) (by rw [hkd]; rfl))) (hF.put e2 e3 hN) hl
theorem x_zast (k : Int) {i z : Int} {t n a : Nat} (hs : (σ k).2 = (t, n)) (ha : (σ k).1 = a) (ht : ¬ t < 32 ∧ xel t = .boolean ∧ n < 2147483648) (hkd : xkd t i.toNat = 0) (hi : 0 ≤ i ∧ i < n) (hnar : narrow .boolean (vi z) = vi z) (hd : decode M.2.1 pc = .ok (.bastore, 1)) (kk : ∀ R1, R1 = xup R k i z → V X M B σ R1 cn sn (pc + 1) L st) : V X M B σ R cn sn pc L (vi z :: vi i :: .ref a :: st) := by
  obtain ⟨p, l, e, Rm, s, m, args, below, meth, c, N0, D, dA⟩ := X
  intro ok H locs ls hH hF hl
  obtain ⟨hN, q1⟩ := xAr hH hs ht.1
  subst ha
  have hel := ht.2.1
  have q1' := q1
  rw [hel] at q1'
  refine W.zast ok.1 ok.2.1 q1' (xarrOf ok.2.2.2.2.2.2.1.1 (hel ▸ xel_in t) _ _) (fun q => by cases q) (by rw [arrV_size]; exact iI_in hi ht.2.2) rfl rfl hd fun H1 e1 e2 e3 => ?_
  rw [hnar, iI_clamp (by omega)] at e1
  rw [iI_clamp (by omega)]
  exact kk _ rfl ok H1 _ ls (hH.set (by rw [hs]; show t ≠ 0; omega) e3 (xAt.setAr hs ht.1 hi (by rw [hel]; exact e1) (by rw [hkd]; rfl))) (hF.put e2 e3 hN) hl
theorem x_bast (k : Int) {i z : Int} {t n a : Nat} (hs : (σ k).2 = (t, n)) (ha : (σ k).1 = a) (ht : ¬ t < 32 ∧ xel t = .byte ∧ n < 2147483648) (hkd : xkd t i.toNat = 0) (hi : 0 ≤ i ∧ i < n) (hnar : narrow .byte (vi z) = vi z) (hd : decode M.2.1 pc = .ok (.bastore, 1)) (kk : ∀ R1, R1 = xup R k i z → V X M B σ R1 cn sn (pc + 1) L st) : V X M B σ R cn sn pc L (vi z :: vi i :: .ref a :: st) := by
  obtain ⟨p, l, e, Rm, s, m, args, below, meth, c, N0, D, dA⟩ := X
  intro ok H locs ls hH hF hl
  obtain ⟨hN, q1⟩ := xAr hH hs ht.1
  subst ha
  have hel := ht.2.1
  have q1' := q1
  rw [hel] at q1'
  refine W.bast ok.1 ok.2.1 q1' (xarrOf ok.2.2.2.2.2.2.1.1 (hel ▸ xel_in t) _ _) (fun q => by cases q) (by rw [arrV_size]; exact iI_in hi ht.2.2) rfl rfl hd fun H1 e1 e2 e3 => ?_
  rw [hnar, iI_clamp (by omega)] at e1
  rw [iI_clamp (by omega)]
  exact kk _ rfl ok H1 _ ls (hH.set (by rw [hs]; show t ≠ 0; omega) e3 (xAt.setAr hs ht.1 hi (by rw [hel]; exact e1) (by rw [hkd]; rfl))) (hF.put e2 e3 hN) hl
theorem x_cast (k : Int) {i z : Int} {t n a : Nat} (hs : (σ k).2 = (t, n)) (ha : (σ k).1 = a) (ht : ¬ t < 32 ∧ xel t = .char ∧ n < 2147483648) (hkd : xkd t i.toNat = 0) (hi : 0 ≤ i ∧ i < n) (hnar : narrow .char (vi z) = vi z) (hd : decode M.2.1 pc = .ok (.castore, 1)) (kk : ∀ R1, R1 = xup R k i z → V X M B σ R1 cn sn (pc + 1) L st) : V X M B σ R cn sn pc L (vi z :: vi i :: .ref a :: st) := by
  obtain ⟨p, l, e, Rm, s, m, args, below, meth, c, N0, D, dA⟩ := X
  intro ok H locs ls hH hF hl
  obtain ⟨hN, q1⟩ := xAr hH hs ht.1
  subst ha
  have hel := ht.2.1
  have q1' := q1
  rw [hel] at q1'
  refine W.cast ok.1 ok.2.1 q1' (xarrOf ok.2.2.2.2.2.2.1.1 (hel ▸ xel_in t) _ _) (fun q => by cases q) (by rw [arrV_size]; exact iI_in hi ht.2.2) rfl rfl hd fun H1 e1 e2 e3 => ?_
  rw [hnar, iI_clamp (by omega)] at e1
  rw [iI_clamp (by omega)]
  exact kk _ rfl ok H1 _ ls (hH.set (by rw [hs]; show t ≠ 0; omega) e3 (xAt.setAr hs ht.1 hi (by rw [hel]; exact e1) (by rw [hkd]; rfl))) (hF.put e2 e3 hN) hl
theorem x_sast (k : Int) {i z : Int} {t n a : Nat} (hs : (σ k).2 = (t, n)) (ha : (σ k).1 = a) (ht : ¬ t < 32 ∧ xel t = .short ∧ n < 2147483648) (hkd : xkd t i.toNat = 0) (hi : 0 ≤ i ∧ i < n) (hnar : narrow .short (vi z) = vi z) (hd : decode M.2.1 pc = .ok (.sastore, 1)) (kk : ∀ R1, R1 = xup R k i z → V X M B σ R1 cn sn (pc + 1) L st) : V X M B σ R cn sn pc L (vi z :: vi i :: .ref a :: st) := by
  obtain ⟨p, l, e, Rm, s, m, args, below, meth, c, N0, D, dA⟩ := X
  intro ok H locs ls hH hF hl
  obtain ⟨hN, q1⟩ := xAr hH hs ht.1
  subst ha
  have hel := ht.2.1
  have q1' := q1
  rw [hel] at q1'
  refine W.sast ok.1 ok.2.1 q1' (xarrOf ok.2.2.2.2.2.2.1.1 (hel ▸ xel_in t) _ _) (fun q => by cases q) (by rw [arrV_size]; exact iI_in hi ht.2.2) rfl rfl hd fun H1 e1 e2 e3 => ?_
  rw [hnar, iI_clamp (by omega)] at e1
  rw [iI_clamp (by omega)]
  exact kk _ rfl ok H1 _ ls (hH.set (by rw [hs]; show t ≠ 0; omega) e3 (xAt.setAr hs ht.1 hi (by rw [hel]; exact e1) (by rw [hkd]; rfl))) (hF.put e2 e3 hN) hl
theorem x_last (k : Int) {i z : Int} {t n a : Nat} (hs : (σ k).2 = (t, n)) (ha : (σ k).1 = a) (ht : ¬ t < 32 ∧ xel t = .long ∧ n < 2147483648) (hkd : xkd t i.toNat = 1) (hi : 0 ≤ i ∧ i < n) (hd : decode M.2.1 pc = .ok (.lastore, 1)) (kk : ∀ R1, R1 = xup R k i z → V X M B σ R1 cn sn (pc + 1) L st) : V X M B σ R cn sn pc L (vl z :: vi i :: .ref a :: st) := by
  obtain ⟨p, l, e, Rm, s, m, args, below, meth, c, N0, D, dA⟩ := X
  intro ok H locs ls hH hF hl
  obtain ⟨hN, q1⟩ := xAr hH hs ht.1
  subst ha
  have hel := ht.2.1
  have q1' := q1
  rw [hel] at q1'
  refine W.last ok.1 ok.2.1 q1' (xarrOf ok.2.2.2.2.2.2.1.1 (hel ▸ xel_in t) _ _) (fun q => by cases q) (by rw [arrV_size]; exact iI_in hi ht.2.2) rfl rfl hd fun H1 e1 e2 e3 => ?_
  rw [iI_clamp (by omega)] at e1
  rw [iI_clamp (by omega)]
  exact kk _ rfl ok H1 _ ls (hH.set (by rw [hs]; show t ≠ 0; omega) e3 (xAt.setAr hs ht.1 hi (by rw [hel]; exact e1) (by rw [hkd]; rfl))) (hF.put e2 e3 hN) hl
end XROWS
