/-! rows: an array of arrays in one step -/
theorem xAo {args : Array Value} {s : State} {t : FieldType} (h : (Cond.arrayOver (.array t)).before args s = true) :
    ∃ comp c k, s.vm.findClass (FieldType.array t).toString = some comp ∧ s.vm.classes[c]? = some k ∧ k.kind = .array comp (.array t) ∧ s.vm.findClass ("[" ++ (FieldType.array t).toString) = some c := by
  unfold Cond.before at h
  simp only [Cond.holds, Cond.value, beq_iff_eq, Option.bind_eq_some_iff, Option.map_eq_some_iff] at h
  obtain ⟨comp, hc, ci, hi, k, hk, hb⟩ := h
  obtain ⟨hlt, hp, -⟩ := Array.findIdx?_eq_some_iff_getElem.mp hi
  have hkk : s.vm.classes[ci] = k := (Array.getElem?_eq_some_iff.mp hk).2
  rw [hkk] at hp
  cases hkd : k.kind with
  | array c2 ty =>
    rw [hkd] at hb hp
    simp only [Bool.and_eq_true, decide_eq_true_eq, beq_iff_eq] at hb hp
    exact ⟨comp, ci, k, hc, hk, by rw [hkd, hp, hb.1], hb.2⟩
  | _ => rw [hkd] at hb; cases hb
/-- a row of an array of arrays -/
def mgR (comp : ClassId) (M : Nat) (dv : Value) : Cell := { cls := comp, slots := Array.replicate M dv, vm := .none }
/-- the array of arrays on its way: i rows are in -/
def mG (cA comp : ClassId) (N M : Nat) (dv : Value) (T : State) : Nat → State → Prop
  | 0, U => U = T.pushCell { cls := cA, slots := Array.replicate N .null, vm := .none }
  | i + 1, U => ∃ U0 cell, mG cA comp N M dv T i U0 ∧ (U0.pushCell (mgR comp M dv)).heap[T.heap.size]? = some cell ∧ U = (U0.pushCell (mgR comp M dv)).setCell T.heap.size (cell.setSlot i (.ref U0.heap.size))
section MGR
variable {cA comp : ClassId} {N M : Nat} {dv : Value}
theorem mG.vm {T : State} : ∀ {i : Nat} {U : State}, mG cA comp N M dv T i U → U.vm = T.vm ∧ U.heap.size = T.heap.size + 1 + i ∧ U.slotsUsed = T.slotsUsed + N + i * M ∧ (∀ q : Nat, q < T.heap.size → U.heap[q]? = T.heap[q]?) ∧ (∀ j, j < i → U.heap[T.heap.size + 1 + j]? = some (mgR comp M dv)) ∧ U.heap[T.heap.size]? = some (arrV cA N (fun j => if j < i then .ref (T.heap.size + 1 + j) else .null)) := by
  intro i
  induction i with
  | zero =>
    intro U h
    have h : U = T.pushCell { cls := cA, slots := Array.replicate N .null, vm := .none } := h
    rw [h]
    refine ⟨rfl, by simp, by simp, fun q hq => State.heap_pushCell_of_lt _ _ hq, fun j hj => by omega, ?_⟩
    rw [State.heap_pushCell_size]
    congr 1
    rw [arrV_new]
    congr 1
  | succ i ih =>
    rintro U ⟨U0, cell, h0, hc, hU⟩
    obtain ⟨a1, a2, a3, a4, a5, a6⟩ := ih h0
    have hlt : T.heap.size < U0.heap.size := by omega
    rw [State.heap_pushCell_of_lt (h := hlt), a6] at hc
    have hc := Option.some.inj hc
    have hcell : (U0.pushCell (mgR comp M dv)).heap[T.heap.size]? = some cell := by rw [State.heap_pushCell_of_lt (h := hlt), a6, hc]
    rw [hU]
    refine ⟨a1, by simp [State.setCell, a2]; omega, ?_, fun q hq => ?_, fun j hj => ?_, ?_⟩
    · show U0.slotsUsed + (mgR comp M dv).slots.size = _
      rw [a3]
      simp [mgR, Nat.succ_mul]
      omega
    · rw [State.heap_setCell_other (show T.heap.size ≠ q by omega), State.heap_pushCell_of_lt (h := show q < U0.heap.size by omega)]
      exact a4 q hq
    · rw [State.heap_setCell_other (show T.heap.size ≠ T.heap.size + 1 + j by omega)]
      by_cases e : j = i
      · rw [e, ← a2]; exact State.heap_pushCell_size _ _
      · rw [State.heap_pushCell_of_lt (h := show T.heap.size + 1 + j < U0.heap.size by omega)]
        exact a5 j (by omega)
    · rw [State.heap_setCell_self hcell, ← hc, a2]
      rw [arrV_store]
      congr 2
      funext j
      unfold updV
      by_cases e : j = i
      · rw [if_pos e, if_pos (by omega), e]
      · rw [if_neg e]
        dsimp only
        by_cases e2 : j < i
        · rw [if_pos e2, if_pos (by omega)]
        · rw [if_neg e2, if_neg (by omega)]
theorem mG.top {T : State} {g : JFrame} : ∀ {i : Nat} {U : State}, mG cA comp N M dv (T.setTop g) i U → ∃ U', mG cA comp N M dv T i U' ∧ U = U'.setTop g := by
  intro i
  induction i with
  | zero =>
    intro U h
    exact ⟨_, rfl, h⟩
  | succ i ih =>
    rintro U ⟨U0, cell, h0, hc, hU⟩
    obtain ⟨V0, v1, v2⟩ := ih h0
    rw [v2] at hc hU
    refine ⟨_, ⟨V0, cell, v1, hc, rfl⟩, ?_⟩
    rw [hU]
    simp only [State.heap_setTop, State.pushCell_setTop, State.setCell_setTop]
theorem mG.fun {T : State} : ∀ {i : Nat} {U U' : State}, mG cA comp N M dv T i U → mG cA comp N M dv T i U' → U = U' := by
  intro i
  induction i with
  | zero => intro U U' h h'; exact Eq.trans (show U = _ from h) (show U' = _ from h').symm
  | succ i ih =>
    rintro U U' ⟨U0, cell, h0, hc, hU⟩ ⟨U0', cell', h0', hc', hU'⟩
    have e := ih h0 h0'
    subst e
    rw [hc] at hc'
    rw [hU, hU', Option.some.inj hc']
theorem mG.ex {T : State} : ∀ i : Nat, ∃ U, mG cA comp N M dv T i U := by
  intro i
  induction i with
  | zero => exact ⟨_, rfl⟩
  | succ i ih =>
    obtain ⟨U0, h0⟩ := ih
    obtain ⟨a1, a2, a3, a4, a5, a6⟩ := h0.vm
    exact ⟨_, U0, _, h0, by rw [State.heap_pushCell_of_lt (h := show T.heap.size < U0.heap.size by omega)]; exact a6, rfl⟩
end MGR
theorem mG.stand {p : Program} {l : Launch} {e : Env} {R : Room} {s : State} {m : MethodId} {args : Array Value} {below : List Frame} {meth : Method} {c : Code} {T : State} {locs : List Loc} {cells slots : Nat} {cA comp : ClassId} {N M : Nat} {dv : Value} (X : Stand p l e R s m args below meth c T locs cells slots) : ∀ {i : Nat} {U : State}, mG cA comp N M dv T i U → ∃ J : List Loc, (∀ x ∈ J, x.base = T.heap.size) ∧ Stand p l e R s m args below meth c U (locs ++ J) (cells + 1 + i) (slots + N + i * M) := by
  intro i
  induction i with
  | zero =>
    intro U h
    have h : U = T.pushCell { cls := cA, slots := Array.replicate N .null, vm := .none } := h
    refine ⟨[], fun x hx => (by cases hx), ?_⟩
    have h2 := X.pushed { cls := cA, slots := Array.replicate N .null, vm := .none }
    rw [h]
    simpa using h2
  | succ i ih =>
    rintro U ⟨U0, cell, h0, hc, hU⟩
    obtain ⟨J, j1, j2⟩ := ih h0
    have h2 := (j2.pushed (mgR comp M dv)).stored hc i (.ref U0.heap.size)
    refine ⟨J ++ [⟨T.heap.size, i⟩], fun x hx => ?_, ?_⟩
    · rcases List.mem_append.mp hx with hx | hx
      · exact j1 x hx
      · rw [List.mem_singleton.mp hx]
    · rw [hU, ← List.append_assoc, show slots + N + (i + 1) * M = slots + N + i * M + (mgR comp M dv).slots.size by simp [mgR, Nat.succ_mul]; omega]
      exact h2
section MWP
variable {E : CtlPost} {e : Env} {d : Bool} {acts : List Action} {s : State}
/-- an array comes, its places at their default -/
theorem xwNew {c comp : ClassId} {k : Class} {ty : FieldType} {n : Nat} {v : Value} {Q : Addr → Pre} (hk : s.vm.classes[c]? = some k) (hkd : k.kind = .array comp ty) (hl : n ≤ e.platform.arrayLengthLimit) (hb : n * componentBytes ty ≤ e.platform.maxHeapBytes) (hf : fits ty v = true) (hv : v.isDefault = true) (h1 : s.heap.size < e.platform.maxCells) (h2 : s.slotsUsed + n ≤ e.platform.maxSlots)
    (hq : ∀ acts', Q s.heap.size d acts' (s.pushCell { cls := c, slots := Array.replicate n v, vm := .none })) : (Jvm.newArray c n v).wp Q E e d acts s := by
  have h3 : ¬ n > e.platform.arrayLengthLimit := by omega
  have h4 : ¬ n * componentBytes ty > e.platform.maxHeapBytes := by omega
  have h5 : ¬ n > e.platform.maxSlots := by omega
  have hfit : ∀ (i : Nat) (w : Value), (Array.replicate n v)[i]? = some w → s.fitsSlot c .none i w = true := by
    intro i w hw
    rw [Array.getElem?_replicate] at hw
    by_cases hi : i < n
    · rw [if_pos hi] at hw
      cases hw
      simp [State.fitsSlot, State.slotType?, hk, hkd, hf]
    · rw [if_neg hi] at hw
      cases hw
  simp only [Jvm.newArray, Jvm.arrayFits, wp_bind', W.ask, W.ite, h3, if_false, wp_pure', W.theClass, hk, hkd, h4, h5, W.alloc, Option.some.injEq, exists_eq_left', Array.size_replicate]
  exact ⟨h1, h2, hfit, hq _⟩
/-- an array of arrays comes -/
theorem xwMulti {cA comp cc : ClassId} {kA kC : Class} {ty : FieldType} {n k : Int32} {N M : Nat} {Q : Addr → Pre} (hA : s.vm.classes[cA]? = some kA) (hkA : kA.kind = .array comp (.array ty)) (hC : s.vm.classes[comp]? = some kC) (hkC : kC.kind = .array cc ty) (hn : ¬ n < 0) (hk : ¬ k < 0) (hN : n.toNatClampNeg = N) (hM : k.toNatClampNeg = M)
    (hl1 : N ≤ e.platform.arrayLengthLimit) (hl2 : M ≤ e.platform.arrayLengthLimit) (hb1 : N * 4 ≤ e.platform.maxHeapBytes) (hb2 : M * componentBytes ty ≤ e.platform.maxHeapBytes) (hf : fits ty (defaultValue ty) = true) (hv : (defaultValue ty).isDefault = true) (h1 : s.heap.size + 1 + N ≤ e.platform.maxCells) (h2 : s.slotsUsed + N + N * M ≤ e.platform.maxSlots)
    (hq : ∀ U d' acts', mG cA comp N M (defaultValue ty) s N U → Q s.heap.size d' acts' U) : (multianewarray.make cA [n, k]).wp Q E e d acts s := by
  have hfind : ([k].find? (· < 0)) = none := by simp [hk]
  rw [multianewarray.make]
  simp only [wp_bind', W.ite, hn, if_false, wp_pure', W.theClass, hA, hkA, Option.some.injEq, exists_eq_left', hN]
  refine xwNew hA hkA hl1 hb1 rfl rfl (by omega) (by omega) (fun acts1 => ?_)
  simp only [hfind]
  rw [ite_self, wp_bind', Std.Legacy.Range.forIn_eq_forIn_range']
  have hsz : ([:N] : Std.Legacy.Range).size = N := by simp [Std.Legacy.Range.size]
  rw [hsz]
  show Sem.wp (forIn (List.range' 0 N 1) PUnit.unit _) _ E e d acts1 _
  refine wp_forIn_inv (fun rest U => ∃ i, i ≤ N ∧ rest = List.range' i (N - i) ∧ mG cA comp N M (defaultValue ty) s i U) _ _ ⟨0, Nat.zero_le _, rfl, rfl⟩ ?_ ?_
  · rintro x rest U d1 acts2 Q1 ⟨i, hi, hr, hU⟩ hnext
    have hlt : i < N := by
      rcases Nat.lt_or_ge i N with h | h
      · exact h
      · rw [show N - i = 0 by omega] at hr; cases hr
    rw [show N - i = (N - (i + 1)) + 1 by omega, List.range'_succ] at hr
    obtain ⟨rfl, hr⟩ := List.cons.inj hr
    obtain ⟨a1, a2, a3, a4, a5, a6⟩ := hU.vm
    have hle : x * M + M ≤ N * M := by rw [← Nat.succ_mul]; exact Nat.mul_le_mul_right _ hlt
    simp only [wp_bind']
    rw [multianewarray.make]
    simp only [wp_bind', W.ite, hk, if_false, wp_pure', W.theClass, a1, hC, hkC, Option.some.injEq, exists_eq_left', hM]
    refine xwNew (by rw [a1]; exact hC) hkC hl2 hb2 hf hv (by omega) (by omega) (fun acts3 => ?_)
    have hlt2 : s.heap.size < U.heap.size := by omega
    have hcell : (U.pushCell (mgR comp M (defaultValue ty))).heap[s.heap.size]? = some (arrV cA N (fun j => if j < x then .ref (s.heap.size + 1 + j) else .null)) := by rw [State.heap_pushCell_of_lt (h := hlt2)]; exact a6
    simp only [wp_bind', W.writeLoc, wp_pure']
    refine ⟨_, hcell, by simp [arrV], by simp [arrV]; exact hlt, ?_, hnext _ _ _ ⟨x + 1, by omega, hr, U, _, hU, hcell, rfl⟩⟩
    simp [State.fitsSlot, State.slotType?, arrV, a1, hA, hkA, fits]
  · rintro U d1 acts2 ⟨i, hi, hr, hU⟩
    have ei : i = N := by
      rcases Nat.lt_or_ge i N with h | h
      · rw [show N - i = (N - (i + 1)) + 1 by omega, List.range'_succ] at hr; cases hr
      · omega
    rw [ei] at hU
    simp only [wp_pure']
    exact hq U _ _ hU
end MWP
theorem arrV_cg {cI : ClassId} {N : Nat} {f g : Nat → Value} (h : ∀ j, j < N → f j = g j) : arrV cI N f = arrV cI N g := by
  unfold arrV
  congr 2
  funext j
  exact h j j.isLt
/-- the step: an array of n arrays of k places -/
theorem W.multi {p : Program} {l : Launch} {e : Env} {R : Room} {s : State} {m : MethodId} {args : Array Value} {below : List Frame} {meth : Method} {c : Code} {H : Heap} {locs : List Loc} {cells slots : Nat} {Q : State → Prop} {cc : ByteArray} (hexec : p.tables.exec = Jvm.exec) (hb : c.code = cc) {own : String} {index : Nat} {ty : FieldType} {cA comp : ClassId} {kA kC : Class} {c2 : ClassId}
    (hown : s.vm.findClass own = some m.cls) (hlink : (Cond.classLink own index ("[" ++ (FieldType.array ty).toString)).before args s = true) (hnm : s.vm.findClass ("[" ++ (FieldType.array ty).toString) = some cA) (hA : s.vm.classes[cA]? = some kA) (hkA : kA.kind = .array comp (.array ty)) (hC : s.vm.classes[comp]? = some kC) (hkC : kC.kind = .array c2 ty)
    {pc : Nat} {ls : Array Slot} {n k : Int32} {N M : Nat} {rest : List Value} (hd : decode cc pc = .ok (.multianewarray index 2, 4)) (hn : ¬ n < 0) (hk : ¬ k < 0) (hN : n.toNatClampNeg = N) (hM : k.toNatClampNeg = M) (hl1 : N ≤ 1000) (hl2 : M ≤ 1000) (hb2 : componentBytes ty ≤ 8) (hf : fits ty (defaultValue ty) = true) (hv : (defaultValue ty).isDefault = true) (hcells : cells + (1 + N) ≤ R.cells) (hslots : slots + (N + N * M) ≤ R.slots)
    (kk : ∀ H1 : Heap, H1.size = H.size + 1 + N → (∀ q : Nat, q < H.size → H1[q]? = H[q]?) → (∀ j, j < N → H1[H.size + 1 + j]? = some (mgR comp M (defaultValue ty))) → H1[H.size]? = some (arrV cA N (fun j => .ref (H.size + 1 + j))) → W p l e R s m args below meth c H1 locs (cells + 1 + N) (slots + N + N * M) Q (F0 m (pc + 4) ls (.ref H.size :: rest))) :
    W p l e R s m args below meth c H locs cells slots Q (F0 m pc ls (.int k :: .int n :: rest)) := by
  intro T hT X
  have hpl : e.platform.magicAccessors = ({} : Platform).magicAccessors := by rw [X.admits.platform]
  obtain ⟨c0, hfc0, hcl⟩ := Cond.classLink_spec hown hlink e.platform hpl
  cases hnm.symm.trans hfc0
  obtain ⟨hg1, hw1, -⟩ := State.classEntry (e := e) X.warmed hcl
  generalize T.vm.noted m.cls index (.cls cA) = vm1 at hg1 hw1
  obtain ⟨kA1, hA1, eA⟩ := hw1.alike.2.2 _ _ hA
  obtain ⟨kC1, hC1, eC⟩ := hw1.alike.2.2 _ _ hC
  have X1 := X.noted hw1
  obtain ⟨r1, r2⟩ := X.roomAbove hcells hslots
  have hlim := Launch.admits_arrayLengthLimit X.admits
  have hhp := Launch.admits_maxHeapBytes X.admits
  obtain ⟨U, hU⟩ := mG.ex (cA := cA) (comp := comp) (N := N) (M := M) (dv := defaultValue ty) (T := T.setVm vm1) N
  obtain ⟨a1, a2, a3, a4, a5, a6⟩ := hU.vm
  have hTh : (T.setVm vm1).heap = H := hT
  rw [hTh] at a2 a4 a5 a6
  obtain ⟨J, j1, j2⟩ := hU.stand X1
  have X2 := j2.dropFresh (fun x hx => by rw [j1 x hx]; exact X.heapGrown)
  obtain ⟨t, h1, h2⟩ := kk U.heap a2 a4 a5 (by rw [a6]; exact congrArg some (arrV_cg (fun j hj => if_pos hj))) U rfl X2
  refine ⟨t, ?_, h2⟩
  have hdc : decode c.code (F0 m pc ls (.int k :: .int n :: rest)).pc = .ok (.multianewarray index 2, 4) := by rw [hb]; exact hd
  jvm_step X.here [hexec, hdc]
  simp only [multianewarray.sem, wp_bind', W.resolveClassAt_links (State.method?_setTop (F0 m pc ls (.int k :: .int n :: rest)) X.here.top) hg1]
  rw [W.popN, if_neg (by decide)]
  refine ⟨F0 m pc ls (.int k :: .int n :: rest), State.topJava?_setTop' (s := T.setVm vm1) _ X.here.top, [.int n, .int k], rest, rfl, rfl, ?_⟩
  simp only [List.mapM_cons, List.mapM_nil, wp_bind', wp_pure']
  have eS : ((T.setTop (F0 m pc ls (.int k :: .int n :: rest))).setVm vm1).setTop { F0 m pc ls (.int k :: .int n :: rest) with stack := rest } = (T.setVm vm1).setTop (F0 m pc ls rest) := by
    show ((T.setVm vm1).setTop _).setTop _ = _
    rw [State.setTop_setTop]
  rw [eS]
  refine xwMulti (s := (T.setVm vm1).setTop (F0 m pc ls rest)) (kA := kA1) (kC := kC1) (cc := c2) (ty := ty) hA1 (by rw [eA]; exact hkA) hC1 (by rw [eC]; exact hkC) hn hk hN hM (by omega) (by omega) (by omega) (Nat.le_trans (Nat.mul_le_mul_left M hb2) (by omega)) hf hv (by show T.heap.size + 1 + N ≤ _; omega) (by show T.slotsUsed + N + N * M ≤ _; omega) (fun U1 d1 acts1 h3 => ?_)
  obtain ⟨U2, h4, h5⟩ := h3.top
  have e2 : U2 = U := h4.fun hU
  rw [e2] at h5
  rw [h5]
  have hsz : ((T.setVm vm1).setTop (F0 m pc ls rest)).heap.size = H.size := by show T.heap.size = _; rw [hT]
  simp only [wp_bind', W.mark, W.pushRef, State.topJava?_setTop' _ X2.here.top, Option.some.injEq, exists_eq_left', State.setTop_setTop, hsz]
  intro acts
  simp [jvm, X2.here.top]
  exact h1
/-- memory with a new array of arrays: at region k, its rows at base, base + 1, .. -/
def xsm (σ : xS) (k base : Int) (q T t N M : Nat) : xS := fun a => if a = k then (q, T, N) else if base ≤ a ∧ a < base + N then (q + 1 + (a - base).toNat, t, M) else σ a
def xrm2 (R : xR) (k base : Int) (N : Nat) : xR := fun a => if a = k then (fun _ => 0) else if base ≤ a ∧ a < base + N then (fun _ => 0) else R a
section XMU
variable {X : xCtx} {M : xM} {B : xB} {σ : xS} {R : xR} {cn sn pc : Nat} {L : List (Option Value)} {st stk : List Value}
set_option maxHeartbeats 1000000 in
theorem x_multi (k base : Int) (T t : Nat) {idx N K : Nat} {ty : FieldType} {nm : String} (iw : Nat) (h9 : k < 90 ∨ 99 < k) (hb9 : 99 < base) (hk : (σ k).2.1 = 0) (hkb : k < base) (hrows : ∀ a, base ≤ a → a < base + N → (σ a).2.1 = 0) (hT : ¬ T < 32 ∧ xel T = .array ty ∧ ∀ j, j < N → xkd T j = base.toNat + j + 4) (ht : ¬ t < 32 ∧ xel t = ty ∧ ∀ j, xkd t j = 0) (hdv : defaultValue ty = .int 0) (hcb : componentBytes ty ≤ 8) (hfi : fits ty (.int 0) = true)
    (hnm : nm = "[" ++ (FieldType.array ty).toString) (hlink : Cond.classLink M.1.cls idx nm ∈ xtb) (hw : tables_1[iw]? = some (.arrayOver (.array ty))) (harr : Cond.arrayClass ty ∈ xtb) (hxf : ty ∈ xfts ∧ FieldType.array ty ∈ xfts) (hN : N ≤ 1000) (hK : K ≤ 1000) (hd : decode M.2.1 pc = .ok (.multianewarray idx 2, 4)) (hcs : cn + 1 + N ≤ B.2.1 ∧ sn + N + N * K ≤ B.2.2.1)
    (kk : ∀ q : Nat, V X M B (xsm σ k base q T t N K) (xrm2 R k base N) (cn + 1 + N) (sn + N + N * K) (pc + 4) L (.ref q :: st)) : V X M B σ R cn sn pc L (vi (K : Int) :: vi (N : Int) :: st) := by
  obtain ⟨p, l, e, Rm, s, m, args, below, meth, c, N0, D, dA⟩ := X
  intro ok H locs ls hH hF hl
  have ok' := ok
  obtain ⟨o1, o2, o3, o4, o5, o6, o7, o8, o9, o10, o11, o12, o13, o14, o15⟩ := ok'
  obtain ⟨comp, cA, kA, f1, f2, f3, f4⟩ := xAo (args := args) (o7.2.wd iw hw rfl)
  obtain ⟨comp2, kC, c2, g1, g2, g3⟩ := Cond.arrayClass_spec (o6 _ harr)
  have n1 := (o7.1.2 ty hxf.1).2
  have n2 := (o7.1.2 (.array ty) hxf.2).2
  have eA : cA = dA (.array ty) := Option.some.inj (f4.symm.trans n2)
  have eC : comp = dA ty := Option.some.inj (f1.symm.trans n1)
  have eC2 : comp2 = dA ty := Option.some.inj (g1.symm.trans n1)
  subst eA
  subst eC
  subst eC2
  refine W.multi o1 o2 (ty := ty) (N := N) (M := K) o5 (by rw [← hnm]; exact o6 _ hlink) f4 f2 f3 g2 g3 hd (by rw [iI_lt0 (by omega)]; omega) (by rw [iI_lt0 (by omega)]; omega) (by rw [iI_clamp (by omega)]; rfl) (by rw [iI_clamp (by omega)]; rfl) hN hK hcb (by rw [hdv]; exact hfi) (by rw [hdv]; rfl) (Nat.le_trans (by omega) (Nat.le_trans hcs.1 o14)) (Nat.le_trans (by omega) (Nat.le_trans hcs.2 o15)) (fun H1 z1 z2 z3 z4 => ?_)
  have hN0 : N0 ≤ H.size := Nat.le_trans o9 hF.1
  have sk : xsm σ k base H.size T t N K k = (H.size, T, N) := if_pos rfl
  have sr : ∀ j : Nat, j < N → xsm σ k base H.size T t N K (base + j) = (H.size + 1 + j, t, K) := fun j hj => by
    unfold xsm
    rw [if_neg (by omega), if_pos (by omega), show (base + (j : Int) - base).toNat = j by omega]
  have so : ∀ a, a ≠ k → ¬ (base ≤ a ∧ a < base + N) → xsm σ k base H.size T t N K a = σ a := fun a h1 h2 => by
    unfold xsm
    rw [if_neg h1, if_neg h2]
  have ro : ∀ a, a ≠ k → ¬ (base ≤ a ∧ a < base + N) → xrm2 R k base N a = R a := fun a h1 h2 => by
    unfold xrm2
    rw [if_neg h1, if_neg h2]
  have rr : ∀ j : Nat, j < N → xrm2 R k base N (base + j) = fun _ => 0 := fun j hj => by
    unfold xrm2
    rw [if_neg (by omega), if_pos (by omega)]
  have hold : ∀ a, (σ a).2.1 ≠ 0 → a ≠ k ∧ ¬ (base ≤ a ∧ a < base + N) := fun a ha => ⟨fun q => ha (by rw [q]; exact hk), fun q => ha (hrows a q.1 q.2)⟩
  have hcase : ∀ a, (xsm σ k base H.size T t N K a).2.1 ≠ 0 → a = k ∨ (∃ j : Nat, j < N ∧ a = base + j) ∨ ((σ a).2.1 ≠ 0 ∧ a ≠ k ∧ ¬ (base ≤ a ∧ a < base + N)) := fun a ha => by
    by_cases c1 : a = k
    · exact Or.inl c1
    · by_cases c2 : base ≤ a ∧ a < base + N
      · exact Or.inr (Or.inl ⟨(a - base).toNat, by omega, by omega⟩)
      · rw [so a c1 c2] at ha
        exact Or.inr (Or.inr ⟨ha, c1, c2⟩)
  refine kk H.size ok H1 locs ls ⟨fun a ha => ?_, fun a b ha hb hab => ?_, fun a a1 a2 => by rw [so a (by omega) (by omega)]; exact hH.2.2 a a1 a2⟩ ⟨Nat.le_trans hF.1 (by omega), fun q hq => (z2 q (Nat.lt_of_lt_of_le hq hN0)).trans (hF.2.1 q hq), hF.2.2⟩ hl
  · rcases hcase a ha with c1 | ⟨j, j1, c1⟩ | ⟨c1, c2, c3⟩
    · rw [c1]
      refine ⟨by rw [sk]; exact hN0, ?_, fun j hj cc hc => ?_⟩
      · unfold xAt
        rw [sk, if_neg hT.1]
        show H1[H.size]? = some (arrV (dA (xel T)) N _)
        rw [z4, hT.2.1]
        refine congrArg some (arrV_cg (fun j hj => ?_))
        rw [hT.2.2 j hj]
        show _ = Value.ref (xsm σ k base H.size T t N K ((base.toNat + j : Nat) : Int)).1
        rw [show ((base.toNat + j : Nat) : Int) = base + j by omega, sr j hj]
      · rw [sk] at hj hc
        have hj' : j < N := by
          unfold xns at hj
          rw [if_neg hT.1] at hj
          exact hj
        rw [hT.2.2 j hj'] at hc
        have hc' : some ((base.toNat + j : Nat) : Int) = some cc := hc
        rw [← Option.some.inj hc', show ((base.toNat + j : Nat) : Int) = base + j by omega, sr j hj']
        show t ≠ 0
        omega
    · rw [c1]
      refine ⟨by rw [sr j j1]; show N0 ≤ H.size + 1 + j; omega, ?_, fun i hi cc hc => ?_⟩
      · unfold xAt
        rw [sr j j1, if_neg ht.1, rr j j1]
        show H1[H.size + 1 + j]? = some (arrV (dA (xel t)) K _)
        rw [z3 j j1, ht.2.1]
        unfold mgR
        rw [arrV_new]
        refine congrArg some (arrV_cg (fun i hi => ?_))
        rw [ht.2.2 i, hdv]
        rfl
      · rw [sr j j1, ht.2.2 i] at hc
        cases hc
    · obtain ⟨h1, h2, h3⟩ := hH.1 a c1
      have e1 := so a c2 c3
      refine ⟨by rw [e1]; exact h1, h2.kept e1 (ro a c2 c3) (fun j hj cc hc => by rw [so cc (hold cc (h3 j hj cc hc)).1 (hold cc (h3 j hj cc hc)).2]) (z2 _ h2.lt), fun j hj cc hc => ?_⟩
      rw [e1] at hj hc
      rw [so cc (hold cc (h3 j hj cc hc)).1 (hold cc (h3 j hj cc hc)).2]
      exact h3 j hj cc hc
  · have olt : ∀ a, (σ a).2.1 ≠ 0 → (σ a).1 < H.size := fun a ha => ((hH.1 a ha).2.1).lt
    rcases hcase a ha with c1 | ⟨j, j1, c1⟩ | ⟨c1, c2, c3⟩ <;> rcases hcase b hb with d1 | ⟨i, i1, d1⟩ | ⟨d1, d2, d3⟩
    · omega
    · rw [c1, d1, sk, sr i i1] at hab
      have hab' : H.size = H.size + 1 + i := hab
      omega
    · rw [c1, sk, so b d2 d3] at hab
      have hab' : H.size = (σ b).1 := hab
      have := olt b d1
      omega
    · rw [c1, d1, sk, sr j j1] at hab
      have hab' : H.size + 1 + j = H.size := hab
      omega
    · rw [c1, d1, sr j j1, sr i i1] at hab
      have hab' : H.size + 1 + j = H.size + 1 + i := hab
      omega
    · rw [c1, sr j j1, so b d2 d3] at hab
      have hab' : H.size + 1 + j = (σ b).1 := hab
      have := olt b d1
      omega
    · rw [d1, sk, so a c2 c3] at hab
      have hab' : (σ a).1 = H.size := hab
      have := olt a c1
      omega
    · rw [d1, sr i i1, so a c2 c3] at hab
      have hab' : (σ a).1 = H.size + 1 + i := hab
      have := olt a c1
      omega
    · rw [so a c2 c3, so b d2 d3] at hab
      exact hH.2.1 a b c1 d1 hab
end XMU
