/-! rows: across the nest (Rule.left, Rule.right, State.<init> from RepairDesk) -/
def xFlN (own : String) (idx ci j : Nat) (ty : FieldType) : Prop := ∃ (C : String) (T : u_T) (N iw : Nat) (host : String) (ty0 : Nat → FieldType), xcl[ci]? = some (C, T, N) ∧ j < N ∧ (∀ w ∈ u_ws C T N, w ∈ xtb) ∧ tables_1[iw]? = some (.fieldLinkNest own idx (T j).1 (T j).2.1 (T j).2.2.1 host) ∧ ty0 j = ty
theorem fl_D_156 : xFlN "RepairDesk" 156 1 0 (t_Rule 0) := ⟨R_Rule, F_Rule, 2, 578, "RepairDesk", t_Rule, rfl, by decide, i_Rule, by decide +kernel, rfl⟩
theorem fl_D_153 : xFlN "RepairDesk" 153 1 1 (t_Rule 1) := ⟨R_Rule, F_Rule, 2, 580, "RepairDesk", t_Rule, rfl, by decide, i_Rule, by decide +kernel, rfl⟩
section XR6
variable {X : xCtx} {M : xM} {B : xB} {σ : xS} {R : xR} {cn sn pc : Nat} {L : List (Option Value)} {st stk : List Value}
theorem x_getN (k : Int) (j : Nat) {t n ci a idx : Nat} {ty : FieldType} {v : Value} (hf : xFlN M.1.cls idx ci j ty) (h0 : t ≠ 0 ∧ t < 32 ∧ (t - 1) % 16 = ci) (hs : (σ k).2 = (t, n)) (ha : (σ k).1 = a) (hd : decode M.2.1 pc = .ok (.getfield idx, 3)) (hv : xV σ k (xkd t j) (R k (j : Int)) = v)
    (kk : V X M B σ R cn sn (pc + 3) L (v :: st)) : V X M B σ R cn sn pc L (.ref a :: st) := by
  obtain ⟨C, T, N, iw, host, ty0, hc, hj, hin, hw, -⟩ := hf
  obtain ⟨p, l, e, Rm, s, m, args, below, meth, c, N0, D, dA⟩ := X
  intro ok H locs ls hH hF hl
  obtain ⟨-, cell, q1, q2, q3, q4⟩ := xOb hH hs h0.1 h0.2.1 h0.2.2 hc
  subst ha
  have hts := ok.2.2.2.2.2.1
  obtain ⟨hS, hfc, kC, hkC, hkind⟩ := ok.2.2.2.2.2.2.1.1.1 ci _ hc
  obtain ⟨cf, kf, fi, f, hi, hsl⟩ := hS j hj
  refine va_Wgetf ok.1 ok.2.1 ok.2.2.2.2.1 (va_Nw.use (A := args) rfl (ok.2.2.2.2.2.2.1.2.wd iw hw rfl)) hi (u_facts hfc hkC (u_lays hts hin hj) hi).1 q1 (by rw [q3]; exact fun h => by cases h) (v := v) ?_ rfl rfl hd (kk ok H locs ls hH hF hl)
  rw [hsl, q4 j hj]
  exact congrArg some hv
theorem x_getiN (k : Int) (j : Nat) (ji z : Int) {t n ci a idx : Nat} {ty : FieldType} (hf : xFlN M.1.cls idx ci j ty) (ht : xTk t ci j 0) (hs : (σ k).2 = (t, n)) (ha : (σ k).1 = a) (hji : (j : Int) = ji) (hz : R k ji = z) (hd : decode M.2.1 pc = .ok (.getfield idx, 3))
    (kk : V X M B σ R cn sn (pc + 3) L (vi z :: st)) : V X M B σ R cn sn pc L (.ref a :: st) := by
  subst hji
  exact x_getN k j hf ht.1 hs ha hd (by rw [ht.2, hz]; rfl) kk
theorem x_get3N (k : Int) (j : Nat) (ck : Int) {t n ci a idx : Nat} {ty : FieldType} (hf : xFlN M.1.cls idx ci j ty) (ht : xTk t ci j 3) (hs : (σ k).2 = (t, n)) (ha : (σ k).1 = a) (hck : k + 1 = ck) (hd : decode M.2.1 pc = .ok (.getfield idx, 3))
    (kk : V X M B σ R cn sn (pc + 3) L (.ref (σ ck).1 :: st)) : V X M B σ R cn sn pc L (.ref a :: st) := by
  subst hck
  exact x_getN k j hf ht.1 hs ha hd (by rw [ht.2]; rfl) kk
theorem x_ciN (iw : Nat) {M' : xM} {d mc ms nargs idx a : Nat} {As : List Value} {Z : xZ} {host : String} (ct : Ct M' d mc ms (.ref a :: As) σ R Z) (mk : xMk M' nargs) (hw : tables_1[iw]? = some (.methodLinkNest M.1.cls idx M'.1 host)) (hin : Cond.instanceMethod M'.1 ∈ xtb) (hname : M'.1.name = "<init>") (hret : M'.2.2.2 = none)
    (hlen : As.length = nargs) (hstk : stk = As.reverse ++ .ref a :: st) (hcat : (st.map fun v => v.category).sum ≤ 8) (hd : decode M.2.1 pc = .ok (.invokespecial idx, 3))
    (hB : d + 1 ≤ B.1) (hcs : cn + mc ≤ B.2.1 ∧ sn + ms ≤ B.2.2.1)
    (kk : ∀ r σ' R', Z (.returned r) σ' R' → V X M B σ' R' (cn + mc) (sn + ms) (pc + 3) L (r.toList ++ st)) : V X M B σ R cn sn pc L stk := by
  obtain ⟨p, l, e, Rm, s, m, args, below, meth, c, N0, D, dA⟩ := X
  intro ok H locs ls hH hF hl
  have ok' := ok
  obtain ⟨o1, o2, o3, o4, o5, o6, o7, o8, o9, o10, o11, o12, o13, o14, o15⟩ := ok'
  refine xback ok hF hl (va_runIN (As := As) (Ts := xtb) (own := M.1.cls) (host := host) (index := idx) (n := nargs) (bytes := M'.2.1) (maxL := M'.2.2.1) (nL := M.2.2.1) (cc := M.2.1) ⟨o1, o2, o3, o5, o6⟩ (ct l N0 D dA)
    ⟨va_cnB nargs o6 (xgoodIn mk (ws := []) (fun _ h => by cases h)) (by show xw M' = _; unfold xw; rw [hret]) rfl rfl (o7.2.wd iw hw rfl) (o6 _ mk.2.2.1) mk.2.1 ⟨Nat.le_trans hB o12, ?_⟩, hname, o6 _ hin⟩
    ⟨xPc.blind, xpre ok hH hF⟩ rfl hlen hl.1 hstk (lv_room hcat) hd ⟨Nat.le_trans hcs.1 o14, Nat.le_trans hcs.2 o15⟩) kk
  have h45 := mk.2.2.2
  show 8 + (M'.2.2.1 + 11) + 64 * d ≤ Rm.locals
  omega
end XR6
