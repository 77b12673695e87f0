/-! calls, returns from them, new cells -/
def xMk (M : xM) (n : Nat) : Prop := Cond.code M.1 M.2.1 M.2.2.1 M.2.2.2 ∈ xtb ∧ (M.1.cls ≠ "java/lang/invoke/MethodHandle" ∧ M.1.cls ≠ "java/lang/invoke/VarHandle" ∧ (parseMethodDescriptor M.1.desc).map (fun d => d.parameters.length) = some n) ∧ Cond.initialized M.1.cls ∈ xtb ∧ M.2.2.1 ≤ 45
theorem xPc.blind {l : Launch} {D : va_G} {dA : FieldType → ClassId} {N0 : Nat} {σ : xS} {R : xR} {av : List Value} : FrameBlind (xPc l D dA N0 σ R av) := by
  intro a U g mk h
  obtain ⟨h1, h2, h3, h4⟩ := h
  exact ⟨h1, ⟨xG.moved (u := U) (U := U.calling g mk a) (Vm.Alike.refl U.vm) h2.1, xT.moved (u := U) (U := U.calling g mk a) (Vm.Alike.refl U.vm) (fun _ _ => rfl) (fun w hk => xwk_same hk rfl) h2.2⟩, h3, h4⟩
theorem xgoodIn {M : xM} {n : Nat} (mk : xMk M n) {ws : List Cond} (h : ∀ w ∈ ws, w ∈ xtb) : GoodIn xtb (ws ++ xw M) := by
  intro w hw
  have hx : w ∈ xtb := by
    rcases List.mem_append.mp hw with q | q
    · exact h w q
    · rcases List.mem_cons.mp q with rfl | q
      · exact mk.1
      · exact q
  exact ⟨hx, (xgood hx).2⟩
section XCALL
variable {X : xCtx} {M : xM} {B : xB} {σ : xS} {R : xR} {cn sn pc : Nat} {L : List (Option Value)} {st stk : List Value}
/-- what comes back -/
theorem xback {p : Program} {l : Launch} {e : Env} {Rm : Room} {s : State} {m : MethodId} {args : Array Value} {below : List Frame} {meth : Method} {c : Code} {N0 : Nat} {D : va_G} {dA : FieldType → ClassId} {mc ms : Nat} {Z : xZ} {av : Array Value} {H : Heap} {locs : List Loc} {ls : Array Slot}
    (ok : xOk (p, l, e, Rm, s, m, args, below, meth, c, N0, D, dA) M B) (hF : xF N0 s H locs) (hl : xL ls M.2.2.1 L)
    (hr : va_Run p l e Rm s m args below meth c H locs cn sn mc ms (F0 m pc ls stk) st (xQc D dA N0 Z av) (xfr N0))
    (kk : ∀ r σ' R', Z (.returned r) σ' R' → V (p, l, e, Rm, s, m, args, below, meth, c, N0, D, dA) M B σ' R' (cn + mc) (sn + ms) (pc + 3) L (r.toList ++ st)) :
    W p l e Rm s m args below meth c H locs cn sn (xMQ below (xQc D dA N0 B.2.2.2) args s B.2.1 B.2.2.1 (xfr N0)) (F0 m pc ls stk) := by
  intro T hT X
  obtain ⟨v, st₀, t, T', L1, h0, X', hL, e1, e2, ⟨⟨σ', R', hZ, hH'⟩, hz, hk⟩, hst⟩ := hr T hT X
  rw [h0] at hz hk
  have hN := ok.2.2.2.2.2.2.2.2.1
  obtain ⟨t2, a1, b1⟩ := kk v σ' R' hZ ok T'.heap (locs ++ L1) ls (by rw [e1]; exact hH') ⟨Nat.le_trans hF.1 (by rw [e1]; exact hz), fun q h1 => by rw [e1, hk q h1]; exact hF.2.1 q h1, fun q hq => by
      rcases List.mem_append.mp hq with h | h
      · exact hF.2.2 q h
      · exact hL q h⟩ hl T' rfl X'
  exact ⟨t2, hst t2 a1, b1⟩
theorem xpre {p : Program} {l : Launch} {e : Env} {Rm : Room} {s : State} {m : MethodId} {args : Array Value} {below : List Frame} {meth : Method} {c : Code} {N0 : Nat} {D : va_G} {dA : FieldType → ClassId} {av : List Value} {H : Heap} {locs : List Loc}
    (ok : xOk (p, l, e, Rm, s, m, args, below, meth, c, N0, D, dA) M B) (hH : xH D dA N0 σ R H) (hF : xF N0 s H locs) : ∀ U : State, U.heap = H → s.WarmedH U.vm → xPc l D dA N0 σ R av av.toArray U := by
  intro U hU hW
  exact ⟨rfl, ⟨ok.2.2.2.2.2.2.1.1.moved hW.alike, ok.2.2.2.2.2.2.1.2.moved hW.alike (fun q hq => by rw [hU]; exact hF.2.1 q hq) (fun w hk => xwk_warm hk hW)⟩, by rw [hU]; exact hH, by rw [hU]; exact Nat.le_trans ok.2.2.2.2.2.2.2.2.1 hF.1⟩
theorem x_callV {M' : xM} {d mc ms nargs idx a t n ci : Nat} {As : List Value} {Z : xZ} {T : u_T} {N : Nat} (ct : Ct M' d mc ms (.ref a :: As) σ R Z) (mk : xMk M' nargs) (hlink : Cond.methodLink M.1.cls idx M'.1 ∈ xtb) (hin : Cond.instanceMethod M'.1 ∈ xtb) (hsel : Cond.selects M'.1.cls M'.1 M'.1 ∈ xtb)
    (k : Int) (hs : (σ k).2 = (t, n)) (ha : (σ k).1 = a) (h0 : t ≠ 0 ∧ t < 32 ∧ (t - 1) % 16 = ci) (hc : xcl[ci]? = some (M'.1.cls, T, N)) (hlen : As.length = nargs) (hstk : stk = As.reverse ++ .ref a :: st) (hcat : (st.map fun v => v.category).sum ≤ 8) (hd : decode M.2.1 pc = .ok (.invokevirtual idx, 3))
    (hB : d + 1 ≤ B.1) (hcs : cn + mc ≤ B.2.1 ∧ sn + ms ≤ B.2.2.1)
    (kk : ∀ r σ' R', Z (.returned r) σ' R' → V X M B σ' R' (cn + mc) (sn + ms) (pc + 3) L (r.toList ++ st)) : V X M B σ R cn sn pc L stk := by
  obtain ⟨p, l, e, Rm, s, m, args, below, meth, c, N0, D, dA⟩ := X
  intro ok H locs ls hH hF hl
  have ok' := ok
  obtain ⟨o1, o2, o3, o4, o5, o6, o7, o8, o9, o10, o11, o12, o13, o14, o15⟩ := ok'
  obtain ⟨hN, cell, q1, q2, q3, -⟩ := xOb hH hs h0.1 h0.2.1 h0.2.2 hc
  subst ha
  refine xback ok hF hl (va_runV (As := As) (Ts := xtb) (own := M.1.cls) (C := M'.1.cls) (index := idx) (n := nargs) (bytes := M'.2.1) (maxL := M'.2.2.1) (ret := M'.2.2.2) (nL := M.2.2.1) (cc := M.2.1) ⟨o1, o2, o3, o5, o6⟩ (ct l N0 D dA)
    (cwV nargs o6 (xgoodIn mk (ws := [.methodLink M.1.cls idx M'.1, .instanceMethod M'.1, .selects M'.1.cls M'.1 M'.1, .initialized M'.1.cls]) (by simp only [List.mem_cons, List.not_mem_nil, or_false]; rintro w (rfl | rfl | rfl | rfl); exact hlink; exact hin; exact hsel; exact mk.2.2.1)) rfl rfl rfl ⟨rfl, mk.2.1⟩ ⟨Nat.le_trans hB o12, ?_⟩)
    ⟨xPc.blind, ⟨cell, q1, by rw [q3]; rfl, by rw [q2]; exact (o7.1.1 ci _ hc).2.1⟩, xpre ok hH hF⟩ rfl hlen hl.1 hstk (lv_room hcat) hd ⟨Nat.le_trans hcs.1 o14, Nat.le_trans hcs.2 o15⟩) kk
  have h45 := mk.2.2.2
  show 8 + (M'.2.2.1 + 11) + 64 * d ≤ Rm.locals
  omega
theorem x_callS {M' : xM} {d mc ms nargs idx : Nat} {As : List Value} {Z : xZ} (ct : Ct M' d mc ms As σ R Z) (mk : xMk M' nargs) (hlink : Cond.methodLink M.1.cls idx M'.1 ∈ xtb) (hin : Cond.static M'.1 ∈ xtb)
    (hlen : As.length = nargs) (hstk : stk = As.reverse ++ st) (hcat : (st.map fun v => v.category).sum ≤ 8) (hd : decode M.2.1 pc = .ok (.invokestatic idx, 3))
    (hB : d + 1 ≤ B.1) (hcs : cn + mc ≤ B.2.1 ∧ sn + ms ≤ B.2.2.1)
    (kk : ∀ r σ' R', Z (.returned r) σ' R' → V X M B σ' R' (cn + mc) (sn + ms) (pc + 3) L (r.toList ++ st)) : V X M B σ R cn sn pc L stk := by
  obtain ⟨p, l, e, Rm, s, m, args, below, meth, c, N0, D, dA⟩ := X
  intro ok H locs ls hH hF hl
  have ok' := ok
  obtain ⟨o1, o2, o3, o4, o5, o6, o7, o8, o9, o10, o11, o12, o13, o14, o15⟩ := ok'
  refine xback ok hF hl (va_runS (As := As) (Ts := xtb) (own := M.1.cls) (index := idx) (n := nargs) (bytes := M'.2.1) (maxL := M'.2.2.1) (ret := M'.2.2.2) (nL := M.2.2.1) (cc := M.2.1) ⟨o1, o2, o3, o5, o6⟩ (ct l N0 D dA)
    (va_cwS nargs o6 (xgoodIn mk (ws := [.methodLink M.1.cls idx M'.1, .static M'.1, .initialized M'.1.cls]) (by simp only [List.mem_cons, List.not_mem_nil, or_false]; rintro w (rfl | rfl | rfl); exact hlink; exact hin; exact mk.2.2.1)) rfl rfl rfl mk.2.1 ⟨Nat.le_trans hB o12, ?_⟩)
    ⟨xPc.blind, xpre ok hH hF⟩ rfl hlen hl.1 hstk (lv_room hcat) hd ⟨Nat.le_trans hcs.1 o14, Nat.le_trans hcs.2 o15⟩) kk
  have h45 := mk.2.2.2
  show 8 + (M'.2.2.1 + 11) + 64 * d ≤ Rm.locals
  omega
theorem x_callI {M' : xM} {d mc ms nargs idx a : Nat} {As : List Value} {Z : xZ} (ct : Ct M' d mc ms (.ref a :: As) σ R Z) (mk : xMk M' nargs) (hlink : Cond.methodLink M.1.cls idx M'.1 ∈ xtb) (hin : Cond.instanceMethod M'.1 ∈ xtb) (hname : M'.1.name = "<init>") (hret : M'.2.2.2 = none)
    (hlen : As.length = nargs) (hstk : stk = As.reverse ++ .ref a :: st) (hcat : (st.map fun v => v.category).sum ≤ 8) (hd : decode M.2.1 pc = .ok (.invokespecial idx, 3))
    (hB : d + 1 ≤ B.1) (hcs : cn + mc ≤ B.2.1 ∧ sn + ms ≤ B.2.2.1)
    (kk : ∀ r σ' R', Z (.returned r) σ' R' → V X M B σ' R' (cn + mc) (sn + ms) (pc + 3) L (r.toList ++ st)) : V X M B σ R cn sn pc L stk := by
  obtain ⟨p, l, e, Rm, s, m, args, below, meth, c, N0, D, dA⟩ := X
  intro ok H locs ls hH hF hl
  have ok' := ok
  obtain ⟨o1, o2, o3, o4, o5, o6, o7, o8, o9, o10, o11, o12, o13, o14, o15⟩ := ok'
  refine xback ok hF hl (va_runI (As := As) (Ts := xtb) (own := M.1.cls) (index := idx) (n := nargs) (bytes := M'.2.1) (maxL := M'.2.2.1) (nL := M.2.2.1) (cc := M.2.1) ⟨o1, o2, o3, o5, o6⟩ (ct l N0 D dA)
    (cwI nargs o6 (xgoodIn mk (ws := []) (fun _ h => by cases h)) (by show xw M' = _; unfold xw; rw [hret]) rfl rfl (o6 _ mk.2.2.1) (o6 _ hlink) (o6 _ hin) hname mk.2.1 ⟨Nat.le_trans hB o12, ?_⟩)
    ⟨xPc.blind, xpre ok hH hF⟩ rfl hlen hl.1 hstk (lv_room hcat) hd ⟨Nat.le_trans hcs.1 o14, Nat.le_trans hcs.2 o15⟩) kk
  have h45 := mk.2.2.2
  show 8 + (M'.2.2.1 + 11) + 64 * d ≤ Rm.locals
  omega
/-- a constructor's call of Object's -/
theorem x_objInit {idx a : Nat} (hlink : Cond.methodLink M.1.cls idx Lib.objectInit ∈ xtb) (hin : Cond.instanceMethod Lib.objectInit ∈ xtb) (hcode : Cond.code Lib.objectInit ⟨#[0xb1]⟩ 1 none ∈ xtb) (hcat : (st.map fun v => v.category).sum ≤ 8) (hd : decode M.2.1 pc = .ok (.invokespecial idx, 3)) (hB : 1 ≤ B.1)
    (kk : V X M B σ R cn sn (pc + 3) L st) : V X M B σ R cn sn pc L (.ref a :: st) := by
  obtain ⟨p, l, e, Rm, s, m, args, below, meth, c, N0, D, dA⟩ := X
  intro ok H locs ls hH hF hl
  have ok' := ok
  obtain ⟨o1, o2, o3, o4, o5, o6, o7, o8, o9, o10, o11, o12, o13, o14, o15⟩ := ok'
  refine W.objInit o1 o2 o5 (o6 _ hlink) (o6 _ hin) (o6 _ hcode) rfl (by rw [o3]; exact hl.1) rfl hd (by omega) ?_ ?_
  · show 2 * 0 + _ + 12 ≤ _
    have : (st.map fun v => v.category).sum ≤ 8 := hcat
    omega
  · exact kk ok H locs ls hH hF hl
end XCALL
-- ===== new cells =====
def xdv (kd : Nat) : Value := match kd with
  | 0 => .int 0
  | 1 => .long 0
  | _ => .null
theorem xV_0 {σ : xS} {k : Int} {kd : Nat} (h : kd < 3) : xV σ k kd 0 = xdv kd := by
  match kd with
  | 0 => rfl
  | 1 => rfl
  | 2 => rfl
  | n + 3 => omega
theorem xsu_self (σ : xS) (k : Int) (t : Nat × Nat × Nat) : xsu σ k t k = t := if_pos rfl
theorem xsu_ne (σ : xS) {k a : Int} (t : Nat × Nat × Nat) (h : a ≠ k) : xsu σ k t a = σ a := if_neg h
theorem xru_self (R : xR) (k : Int) (f : Int → Int) : xru R k f k = f := if_pos rfl
theorem xru_ne (R : xR) {k a : Int} (f : Int → Int) (h : a ≠ k) : xru R k f a = R a := if_neg h
/-- a region comes -/
theorem xH.add {D : va_G} {dA : FieldType → ClassId} {N0 : Nat} {σ : xS} {R : xR} {H H1 : Heap} (hH : xH D dA N0 σ R H) {k : Int} {q t n : Nat} {f : Int → Int} (h9 : k < 90 ∨ 99 < k) (hk : (σ k).2.1 = 0) (hN : N0 ≤ H.size) (hq : q = H.size) (ho : ∀ q, q < H.size → H1[q]? = H[q]?)
    (ht : ∀ j, j < xns t n → xkd t j < 3) (hat : xAt D dA (xsu σ k (q, t, n)) (xru R k f) k H1) : xH D dA N0 (xsu σ k (q, t, n)) (xru R k f) H1 := by
  have hkd : ∀ j, j < xns t n → ∀ c, xtg k (xkd t j) = some c → False := by
    intro j hj c hc
    have h3 := ht j hj
    generalize xkd t j = kd at h3 hc
    match kd with
    | 0 => cases hc
    | 1 => cases hc
    | 2 => cases hc
    | n + 3 => omega
  refine ⟨fun a ha => ?_, fun a b ha hb hab => ?_, fun c c1 c2 => by rw [xsu_ne _ _ (by omega)]; exact hH.2.2 c c1 c2⟩
  · by_cases e : a = k
    · subst e
      refine ⟨by rw [xsu_self, hq]; exact hN, hat, fun j hj c hc => ?_⟩
      rw [xsu_self] at hj hc
      exact (hkd j hj c hc).elim
    · rw [xsu_ne _ _ e] at ha ⊢
      obtain ⟨h1, h2, h3⟩ := hH.1 a ha
      have hc : ∀ c, (σ c).2.1 ≠ 0 → xsu σ k (q, t, n) c = σ c := fun c hc => xsu_ne _ _ (fun e => hc (by rw [e]; exact hk))
      refine ⟨h1, h2.kept (xsu_ne _ _ e) (xru_ne _ _ e) (fun j hj c hc' => by rw [hc c (h3 j hj c hc')]) (ho _ h2.lt), fun j hj c hc' => ?_⟩
      rw [hc c (h3 j hj c hc')]
      exact h3 j hj c hc'
  · have old : ∀ a, a ≠ k → (xsu σ k (q, t, n) a).2.1 ≠ 0 → (σ a).2.1 ≠ 0 ∧ xsu σ k (q, t, n) a = σ a ∧ (σ a).1 < H.size := by
      intro a ea ha
      rw [xsu_ne _ _ ea] at ha
      exact ⟨ha, xsu_ne _ _ ea, ((hH.1 a ha).2.1).lt⟩
    by_cases ea : a = k
    · by_cases eb : b = k
      · rw [ea, eb]
      · obtain ⟨h1, h2, h3⟩ := old b eb hb
        rw [ea, xsu_self, h2] at hab
        have : q = (σ b).1 := hab
        omega
    · obtain ⟨h1, h2, h3⟩ := old a ea ha
      by_cases eb : b = k
      · rw [eb, xsu_self, h2] at hab
        have : (σ a).1 = q := hab
        omega
      · obtain ⟨g1, g2, g3⟩ := old b eb hb
        rw [h2, g2] at hab
        exact hH.2.1 a b h1 g1 hab
section XNEW
variable {X : xCtx} {M : xM} {B : xB} {σ : xS} {R : xR} {cn sn pc : Nat} {L : List (Option Value)} {st stk : List Value}
theorem x_new (k : Int) (t : Nat) {ci idx : Nat} {C : String} {T : u_T} {N : Nat} (ty0 : Nat → FieldType) (h9 : k < 90 ∨ 99 < k) (hk : (σ k).2.1 = 0) (h0 : t ≠ 0 ∧ t < 32 ∧ (t - 1) % 16 = ci) (hc : xcl[ci]? = some (C, T, N)) (hin : ∀ w ∈ u_ws C T N, w ∈ xtb) (hty : ∀ k, k < N → parseFieldDescriptor (T k).2.2.1 = some (ty0 k))
    (hraw : ∀ j, j < N → xkd t j < 3 ∧ defaultValue (ty0 j) = xdv (xkd t j)) (hlink : Cond.classLink M.1.cls idx C ∈ xtb) (hins : Cond.instantiable C N ∈ xtb) (hini : Cond.initialized C ∈ xtb) (hd : decode M.2.1 pc = .ok (.new idx, 3)) (hcs : cn + 1 ≤ B.2.1 ∧ sn + N ≤ B.2.2.1)
    (kk : ∀ q : Nat, V X M B (xsu σ k (q, t, 0)) (xru R k (fun _ => 0)) (cn + 1) (sn + N) (pc + 3) L (.ref q :: st)) : V X M B σ R cn sn pc L st := by
  obtain ⟨p, l, e, Rm, s, m, args, below, meth, c, N0, D, dA⟩ := X
  intro ok H locs ls hH hF hl
  have ok' := ok
  obtain ⟨o1, o2, o3, o4, o5, o6, o7, o8, o9, o10, o11, o12, o13, o14, o15⟩ := ok'
  have hKn := o7.1.1 ci _ hc
  refine W.newcK o1 o2 o5 (o6 _ hlink) (o6 _ hins) (o6 _ hini) rfl hd (Nat.le_trans hcs.1 o14) (Nat.le_trans hcs.2 o15) hKn.2.1 rfl fun H1 kC hkC e1 z1 o => ?_
  have hns : xns t 0 = N := by
    unfold xns
    rw [if_pos h0.2.1, h0.2.2, hc]
  refine kk H.size ok H1 locs ls (hH.add h9 hk (Nat.le_trans o9 hF.1) rfl o (by rw [hns]; exact fun j hj => (hraw j hj).1) ?_) ⟨Nat.le_trans hF.1 (by omega), fun q hq => (o q (Nat.lt_of_lt_of_le hq (Nat.le_trans o9 hF.1))).trans (hF.2.1 q hq), hF.2.2⟩ hl
  unfold xAt
  rw [xsu_self, xru_self, if_pos h0.2.1, h0.2.2]
  refine ⟨_, hc, (u_born ty0 o6 hin hKn hkC e1 hty).to (fun j hj => ?_)⟩
  rw [(hraw j hj).2]
  exact (xV_0 (hraw j hj).1).symm
theorem x_newa (k : Int) (t : Nat) {atype : ArrayType} {N : Nat} {i : Int} (h9 : k < 90 ∨ 99 < k) (hk : (σ k).2.1 = 0) (ht : ¬ t < 32 ∧ xel t = newarray.typeOf atype ∧ (∀ j, xkd t j < 3 ∧ defaultValue (newarray.typeOf atype) = xdv (xkd t j))) (harr : Cond.arrayClass (newarray.typeOf atype) ∈ xtb) (hi : i = (N : Int)) (hN : N < 10000000) (hd : decode M.2.1 pc = .ok (.newarray atype, 2)) (hcs : cn + 1 ≤ B.2.1 ∧ sn + N ≤ B.2.2.1)
    (kk : ∀ q : Nat, V X M B (xsu σ k (q, t, N)) (xru R k (fun _ => 0)) (cn + 1) (sn + N) (pc + 2) L (.ref q :: st)) : V X M B σ R cn sn pc L (vi i :: st) := by
  obtain ⟨p, l, e, Rm, s, m, args, below, meth, c, N0, D, dA⟩ := X
  intro ok H locs ls hH hF hl
  have ok' := ok
  obtain ⟨o1, o2, o3, o4, o5, o6, o7, o8, o9, o10, o11, o12, o13, o14, o15⟩ := ok'
  subst hi
  have hb : componentBytes (newarray.typeOf atype) ≤ 8 := by cases atype <;> decide
  refine va_newaK o1 o2 (o6 _ harr) rfl hd rfl (by rw [iI_lt0 (by omega)]; omega) (N := N) (by rw [iI_clamp (by omega)]; rfl) (Nat.le_trans (Nat.mul_le_mul_left N hb) (by omega)) (Nat.le_trans hcs.1 o14) (Nat.le_trans hcs.2 o15) rfl fun H1 cA e1 z1 o hAr hNm => ?_
  have hcA : cA = dA (newarray.typeOf atype) := by
    have h1 := (o7.1.2 (newarray.typeOf atype) (ht.2.1 ▸ xel_in t)).2
    exact Option.some.inj (hNm.symm.trans h1)
  subst hcA
  refine kk H.size ok H1 locs ls (hH.add h9 hk (Nat.le_trans o9 hF.1) rfl o (fun j _ => (ht.2.2 j).1) ?_) ⟨Nat.le_trans hF.1 (by omega), fun q hq => (o q (Nat.lt_of_lt_of_le hq (Nat.le_trans o9 hF.1))).trans (hF.2.1 q hq), hF.2.2⟩ hl
  unfold xAt
  rw [xsu_self, xru_self, if_neg ht.1]
  show H1[H.size]? = some (arrV (dA (xel t)) N (fun j => xV (xsu σ k (H.size, t, N)) k (xkd t j) 0))
  rw [e1, ht.2.1]
  congr 2
  funext j
  rw [(ht.2.2 j).2, xV_0 (ht.2.2 j).1]
end XNEW
