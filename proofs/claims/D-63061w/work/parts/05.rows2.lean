/-! rows with their links in one bundle -/
def xFl (own : String) (idx ci j : Nat) (ty : FieldType) : Prop := ∃ (C ref : String) (T : u_T) (N : Nat) (ty0 : Nat → FieldType), xcl[ci]? = some (C, T, N) ∧ j < N ∧ (∀ w ∈ u_ws C T N, w ∈ xtb) ∧ (∀ k, k < N → parseFieldDescriptor (T k).2.2.1 = some (ty0 k)) ∧ (∀ a, a < N → ∀ b, b < N → a ≠ b → (T a).2.1 ≠ (T b).2.1) ∧
  Cond.fieldLink own idx ref (T j).2.1 (T j).2.2.1 ∈ xtb ∧ (ref = (T j).1 ∨ Cond.sameField ref (T j).1 (T j).2.1 (T j).2.2.1 ∈ xtb) ∧ ty0 j = ty
def xFp (own : String) (idx ci j : Nat) (ty : FieldType) : Prop := ∃ (C ref : String) (T : u_T) (N : Nat) (ty0 : Nat → FieldType), xcl[ci]? = some (C, T, N) ∧ j < N ∧ (∀ w ∈ u_ws C T N, w ∈ xtb) ∧ (∀ k, k < N → parseFieldDescriptor (T k).2.2.1 = some (ty0 k)) ∧ (∀ a, a < N → ∀ b, b < N → a ≠ b → (T a).2.1 ≠ (T b).2.1) ∧
  Cond.fieldLink own idx ref (T j).2.1 (T j).2.2.1 ∈ xtb ∧ (ref = (T j).1 ∨ Cond.sameField ref (T j).1 (T j).2.1 (T j).2.2.1 ∈ xtb) ∧ ty0 j = ty ∧ (T j).2.2.2 = false
def xFf (own : String) (idx ci j : Nat) (ty : FieldType) : Prop := ∃ (C ref : String) (T : u_T) (N : Nat) (ty0 : Nat → FieldType), xcl[ci]? = some (C, T, N) ∧ j < N ∧ (∀ w ∈ u_ws C T N, w ∈ xtb) ∧ (∀ k, k < N → parseFieldDescriptor (T k).2.2.1 = some (ty0 k)) ∧ (∀ a, a < N → ∀ b, b < N → a ≠ b → (T a).2.1 ≠ (T b).2.1) ∧
  Cond.fieldLink own idx ref (T j).2.1 (T j).2.2.1 ∈ xtb ∧ ref = (T j).1 ∧ ty0 j = ty ∧ (T j).2.2.2 = true ∧ (T j).1 = own
/-- type t is of class ci, its slot j of kind kd -/
def xTk (t ci j kd : Nat) : Prop := (t ≠ 0 ∧ t < 32 ∧ (t - 1) % 16 = ci) ∧ xkd t j = kd
/-- type t is an array of ty, all slots of kind kd -/
def xTa (t n : Nat) (ty : FieldType) : Prop := ¬ t < 32 ∧ xel t = ty ∧ n < 2147483648
def xRc (σ : xS) (k : Int) (a : Nat) (cls : String) : Prop := (σ k).1 = a ∧ ∃ (t n ci : Nat) (T : u_T) (N : Nat), (σ k).2 = (t, n) ∧ (t ≠ 0 ∧ t < 32 ∧ (t - 1) % 16 = ci) ∧ xcl[ci]? = some (cls, T, N)
def xCv (own : String) (idx : Nat) (M' : xM) (n : Nat) : Prop := xMk M' n ∧ Cond.methodLink own idx M'.1 ∈ xtb ∧ Cond.instanceMethod M'.1 ∈ xtb ∧ Cond.selects M'.1.cls M'.1 M'.1 ∈ xtb
def xCs (own : String) (idx : Nat) (M' : xM) (n : Nat) : Prop := xMk M' n ∧ Cond.methodLink own idx M'.1 ∈ xtb ∧ Cond.static M'.1 ∈ xtb
def xCi (own : String) (idx : Nat) (M' : xM) (n : Nat) : Prop := xMk M' n ∧ Cond.methodLink own idx M'.1 ∈ xtb ∧ Cond.instanceMethod M'.1 ∈ xtb ∧ M'.1.name = "<init>" ∧ M'.2.2.2 = none
def xsh (σ : xS) (l : List (Int × Nat × Nat)) : Prop := ∀ (i : Nat) (q : Int × Nat × Nat), l[i]? = some q → (σ q.1).2 = q.2
theorem xsh.at {σ : xS} {l : List (Int × Nat × Nat)} (h : xsh σ l) (i : Nat) {k : Int} {t n : Nat} (hi : l[i]? = some (k, t, n)) : (σ k).2 = (t, n) := h i _ hi
-- posts
/-- answers z, all stays -/
def Zi (σ : xS) (R : xR) (z : Int) : xZ := fun o σ' R' => o = .returned (some (vi z)) ∧ σ' = σ ∧ R' = R
/-- answers some z, the memory's contents move -/
def Zm (σ : xS) (P : Int → xR → Prop) : xZ := fun o σ' R' => ∃ z, o = .returned (some (vi z)) ∧ σ' = σ ∧ P z R'
def Zv (σ : xS) (P : xR → Prop) : xZ := fun o σ' R' => o = .returned none ∧ σ' = σ ∧ P R'
theorem xr_o {R R1 : xR} {k i z a b : Int} (h : R1 = xup R k i z) (hne : a ≠ k) : R1 a b = R a b := by rw [h, xup_ne hne]
theorem xr_s {R R1 : xR} {k i z : Int} (h : R1 = xup R k i z) : R1 k i = z := by rw [h]; unfold xup; rw [if_pos ⟨rfl, rfl⟩]
theorem xr_d {R R1 : xR} {k i z b : Int} (h : R1 = xup R k i z) (hne : b ≠ i) : R1 k b = R k b := by rw [h]; unfold xup; rw [if_neg (fun q => hne q.2)]
theorem xr_e {R R1 : xR} {k i z b : Int} (h : R1 = xup R k i z) (he : b = i) : R1 k b = z := by rw [he]; exact xr_s h
theorem narz {a : Int} (h : a = 0 ∨ a = 1) : narrow .boolean (vi a) = vi a := by rcases h with rfl | rfl <;> rfl
theorem fitz (x : Int32) : fits .boolean (.int x) = fits .boolean (.int x) := rfl
section XR2
variable {X : xCtx} {M : xM} {B : xB} {σ : xS} {R : xR} {cn sn pc : Nat} {L : List (Option Value)} {st stk : List Value}
theorem V.top {a : Int} (kk : ∀ z, z = a → V X M B σ R cn sn pc L (vi z :: st)) : V X M B σ R cn sn pc L (vi a :: st) := kk a rfl
theorem V.teq {a : Int} (z : Int) (h : a = z) (kk : V X M B σ R cn sn pc L (vi z :: st)) : V X M B σ R cn sn pc L (vi a :: st) := h ▸ kk
theorem x_geti (k : Int) (j : Nat) (ji z : Int) {t n ci a idx : Nat} {ty : FieldType} (hf : xFl M.1.cls idx ci j ty) (ht : xTk t ci j 0) (hs : (σ k).2 = (t, n)) (ha : (σ k).1 = a) (hji : (j : Int) = ji) (hz : R k ji = z) (hd : decode M.2.1 pc = .ok (.getfield idx, 3))
    (kk : V X M B σ R cn sn (pc + 3) L (vi z :: st)) : V X M B σ R cn sn pc L (.ref a :: st) := by
  obtain ⟨C, ref, T, N, ty0, h1, h2, h3, h4, h5, h6, h7, -⟩ := hf
  subst hji
  exact x_get k j hs ha ht.1 h1 h2 h3 h6 h7 hd (by rw [ht.2, hz]; rfl) kk
theorem x_getr (k : Int) (j : Nat) (ji z : Int) {t n ci a idx : Nat} {ty : FieldType} (hf : xFl M.1.cls idx ci j ty) (ht : xTk t ci j 2) (hs : (σ k).2 = (t, n)) (ha : (σ k).1 = a) (hji : (j : Int) = ji) (hz : R k ji = z) (hd : decode M.2.1 pc = .ok (.getfield idx, 3))
    (kk : V X M B σ R cn sn (pc + 3) L (rz z :: st)) : V X M B σ R cn sn pc L (.ref a :: st) := by
  obtain ⟨C, ref, T, N, ty0, h1, h2, h3, h4, h5, h6, h7, -⟩ := hf
  subst hji
  exact x_get k j hs ha ht.1 h1 h2 h3 h6 h7 hd (by rw [ht.2, hz]; rfl) kk
theorem x_getc (k : Int) (j : Nat) (c : Nat) (ck : Int) {t n ci a idx : Nat} {ty : FieldType} (hf : xFl M.1.cls idx ci j ty) (ht : xTk t ci j (c + 4)) (hs : (σ k).2 = (t, n)) (ha : (σ k).1 = a) (hck : (c : Int) = ck) (hd : decode M.2.1 pc = .ok (.getfield idx, 3))
    (kk : V X M B σ R cn sn (pc + 3) L (.ref (σ ck).1 :: st)) : V X M B σ R cn sn pc L (.ref a :: st) := by
  obtain ⟨C, ref, T, N, ty0, h1, h2, h3, h4, h5, h6, h7, -⟩ := hf
  subst hck
  exact x_get k j hs ha ht.1 h1 h2 h3 h6 h7 hd (by rw [ht.2]; rfl) kk
theorem x_get3 (k : Int) (j : Nat) (ck : Int) {t n ci a idx : Nat} {ty : FieldType} (hf : xFl M.1.cls idx ci j ty) (ht : xTk t ci j 3) (hs : (σ k).2 = (t, n)) (ha : (σ k).1 = a) (hck : k + 1 = ck) (hd : decode M.2.1 pc = .ok (.getfield idx, 3))
    (kk : V X M B σ R cn sn (pc + 3) L (.ref (σ ck).1 :: st)) : V X M B σ R cn sn pc L (.ref a :: st) := by
  obtain ⟨C, ref, T, N, ty0, h1, h2, h3, h4, h5, h6, h7, -⟩ := hf
  subst hck
  exact x_get k j hs ha ht.1 h1 h2 h3 h6 h7 hd (by rw [ht.2]; rfl) kk
theorem x_puti (k : Int) (j : Nat) (ji : Int) {z : Int} {t n ci a idx : Nat} (hf : xFp M.1.cls idx ci j .int) (ht : xTk t ci j 0) (hs : (σ k).2 = (t, n)) (ha : (σ k).1 = a) (hji : (j : Int) = ji) (hd : decode M.2.1 pc = .ok (.putfield idx, 3))
    (kk : ∀ R1, R1 = xup R k ji z → V X M B σ R1 cn sn (pc + 3) L st) : V X M B σ R cn sn pc L (vi z :: .ref a :: st) := by
  obtain ⟨C, ref, T, N, ty0, h1, h2, h3, h4, h5, h6, h7, h8, h9⟩ := hf
  exact x_put k j ji z ty0 hs ha ht.1 h1 h2 hji h3 h4 h5 h6 h7 h9 hd (by rw [ht.2]; rfl) (by rw [h8]; exact ⟨rfl, rfl⟩) kk
theorem x_putn (k : Int) (j : Nat) (ji : Int) {z : Int} {t n ci a idx : Nat} {ty : FieldType} (hf : xFp M.1.cls idx ci j ty) (ht : xTk t ci j 0) (hs : (σ k).2 = (t, n)) (ha : (σ k).1 = a) (hji : (j : Int) = ji) (hnar : narrow ty (vi z) = vi z ∧ fits ty (vi z) = true) (hd : decode M.2.1 pc = .ok (.putfield idx, 3))
    (kk : ∀ R1, R1 = xup R k ji z → V X M B σ R1 cn sn (pc + 3) L st) : V X M B σ R cn sn pc L (vi z :: .ref a :: st) := by
  obtain ⟨C, ref, T, N, ty0, h1, h2, h3, h4, h5, h6, h7, h8, h9⟩ := hf
  exact x_put k j ji z ty0 hs ha ht.1 h1 h2 hji h3 h4 h5 h6 h7 h9 hd (by rw [ht.2]; rfl) (by rw [h8]; exact hnar) kk
theorem x_putr (k : Int) (j : Nat) (ji z : Int) {v : Value} {t n ci a idx : Nat} {ty : FieldType} (hf : xFp M.1.cls idx ci j ty) (ht : xTk t ci j 2) (hs : (σ k).2 = (t, n)) (ha : (σ k).1 = a) (hji : (j : Int) = ji) (hv : rz z = v) (hnar : narrow ty v = v ∧ fits ty v = true) (hd : decode M.2.1 pc = .ok (.putfield idx, 3))
    (kk : ∀ R1, R1 = xup R k ji z → V X M B σ R1 cn sn (pc + 3) L st) : V X M B σ R cn sn pc L (v :: .ref a :: st) := by
  obtain ⟨C, ref, T, N, ty0, h1, h2, h3, h4, h5, h6, h7, h8, h9⟩ := hf
  exact x_put k j ji z ty0 hs ha ht.1 h1 h2 hji h3 h4 h5 h6 h7 h9 hd (by rw [ht.2]; exact hv) (by rw [h8]; exact hnar) kk
theorem x_putFr (k : Int) (j : Nat) (ji z : Int) {v : Value} {t n ci a idx : Nat} {ty : FieldType} (hf : xFf M.1.cls idx ci j ty) (hin2 : M.1.name = "<init>") (ht : xTk t ci j 2) (hs : (σ k).2 = (t, n)) (ha : (σ k).1 = a) (hji : (j : Int) = ji) (hv : rz z = v) (hnar : narrow ty v = v ∧ fits ty v = true) (hd : decode M.2.1 pc = .ok (.putfield idx, 3))
    (kk : ∀ R1, R1 = xup R k ji z → V X M B σ R1 cn sn (pc + 3) L st) : V X M B σ R cn sn pc L (v :: .ref a :: st) := by
  obtain ⟨C, ref, T, N, ty0, h1, h2, h3, h4, h5, h6, h7, h8, h9, h10⟩ := hf
  exact x_putF k j ji z ty0 hs ha ht.1 h1 h2 hji h3 h4 h5 h6 h7 h9 hin2 h10 hd (by rw [ht.2]; exact hv) (by rw [h8]; exact hnar) kk
theorem x_putFi (k : Int) (j : Nat) (ji : Int) {z : Int} {t n ci a idx : Nat} {ty : FieldType} (hf : xFf M.1.cls idx ci j ty) (hin2 : M.1.name = "<init>") (ht : xTk t ci j 0) (hs : (σ k).2 = (t, n)) (ha : (σ k).1 = a) (hji : (j : Int) = ji) (hnar : narrow ty (vi z) = vi z ∧ fits ty (vi z) = true) (hd : decode M.2.1 pc = .ok (.putfield idx, 3))
    (kk : ∀ R1, R1 = xup R k ji z → V X M B σ R1 cn sn (pc + 3) L st) : V X M B σ R cn sn pc L (vi z :: .ref a :: st) := by
  obtain ⟨C, ref, T, N, ty0, h1, h2, h3, h4, h5, h6, h7, h8, h9, h10⟩ := hf
  exact x_putF k j ji z ty0 hs ha ht.1 h1 h2 hji h3 h4 h5 h6 h7 h9 hin2 h10 hd (by rw [ht.2]; rfl) (by rw [h8]; exact hnar) kk
-- calls by what they answer
theorem x_cv (K : Int) {M' : xM} {d mc ms nargs idx a : Nat} {As : List Value} {Z : xZ} (ct : Ct M' d mc ms (.ref a :: As) σ R Z) (cs : xCv M.1.cls idx M' nargs) (hrc : xRc σ K a M'.1.cls) (hlen : As.length = nargs) (hstk : stk = As.reverse ++ .ref a :: st) (hcat : (st.map fun v => v.category).sum ≤ 8) (hd : decode M.2.1 pc = .ok (.invokevirtual idx, 3))
    (hB : d + 1 ≤ B.1) (hcs : cn + mc ≤ B.2.1 ∧ sn + ms ≤ B.2.2.1) (kk : ∀ r σ' R', Z (.returned r) σ' R' → V X M B σ' R' (cn + mc) (sn + ms) (pc + 3) L (r.toList ++ st)) : V X M B σ R cn sn pc L stk := by
  obtain ⟨ha, t, n, ci, T, N, h1, h2, h3⟩ := hrc
  exact x_callV ct cs.1 cs.2.1 cs.2.2.1 cs.2.2.2 K h1 ha h2 h3 hlen hstk hcat hd hB hcs kk
theorem x_cvi (K : Int) {M' : xM} {d nargs idx a : Nat} {As : List Value} {z : Int} (ct : Ct M' d 0 0 (.ref a :: As) σ R (Zi σ R z)) (cs : xCv M.1.cls idx M' nargs) (hrc : xRc σ K a M'.1.cls) (hlen : As.length = nargs) (hstk : stk = As.reverse ++ .ref a :: st) (hcat : (st.map fun v => v.category).sum ≤ 8) (hd : decode M.2.1 pc = .ok (.invokevirtual idx, 3))
    (hB : d + 1 ≤ B.1) (hcs : cn ≤ B.2.1 ∧ sn ≤ B.2.2.1) (kk : V X M B σ R cn sn (pc + 3) L (vi z :: st)) : V X M B σ R cn sn pc L stk :=
  x_cv K ct cs hrc hlen hstk hcat hd hB hcs (fun r σ' R' h => by
    obtain ⟨h1, h2, h3⟩ := h
    cases h1
    subst h2
    subst h3
    exact kk)
theorem x_cvm (K : Int) {M' : xM} {d nargs idx a : Nat} {As : List Value} {P : Int → xR → Prop} (ct : Ct M' d 0 0 (.ref a :: As) σ R (Zm σ P)) (cs : xCv M.1.cls idx M' nargs) (hrc : xRc σ K a M'.1.cls) (hlen : As.length = nargs) (hstk : stk = As.reverse ++ .ref a :: st) (hcat : (st.map fun v => v.category).sum ≤ 8) (hd : decode M.2.1 pc = .ok (.invokevirtual idx, 3))
    (hB : d + 1 ≤ B.1) (hcs : cn ≤ B.2.1 ∧ sn ≤ B.2.2.1) (kk : ∀ z R1, P z R1 → V X M B σ R1 cn sn (pc + 3) L (vi z :: st)) : V X M B σ R cn sn pc L stk :=
  x_cv K ct cs hrc hlen hstk hcat hd hB hcs (fun r σ' R' h => by
    obtain ⟨z, h1, h2, h3⟩ := h
    cases h1
    subst h2
    exact kk z R' h3)
theorem x_cvv (K : Int) {M' : xM} {d nargs idx a : Nat} {As : List Value} {P : xR → Prop} (ct : Ct M' d 0 0 (.ref a :: As) σ R (Zv σ P)) (cs : xCv M.1.cls idx M' nargs) (hrc : xRc σ K a M'.1.cls) (hlen : As.length = nargs) (hstk : stk = As.reverse ++ .ref a :: st) (hcat : (st.map fun v => v.category).sum ≤ 8) (hd : decode M.2.1 pc = .ok (.invokevirtual idx, 3))
    (hB : d + 1 ≤ B.1) (hcs : cn ≤ B.2.1 ∧ sn ≤ B.2.2.1) (kk : ∀ R1, P R1 → V X M B σ R1 cn sn (pc + 3) L st) : V X M B σ R cn sn pc L stk :=
  x_cv K ct cs hrc hlen hstk hcat hd hB hcs (fun r σ' R' h => by
    obtain ⟨h1, h2, h3⟩ := h
    cases h1
    subst h2
    exact kk R' h3)
theorem x_cs {M' : xM} {d mc ms nargs idx : Nat} {As : List Value} {Z : xZ} (ct : Ct M' d mc ms As σ R Z) (cs : xCs M.1.cls idx M' nargs) (hlen : As.length = nargs) (hstk : stk = As.reverse ++ st) (hcat : (st.map fun v => v.category).sum ≤ 8) (hd : decode M.2.1 pc = .ok (.invokestatic idx, 3))
    (hB : d + 1 ≤ B.1) (hcs : cn + mc ≤ B.2.1 ∧ sn + ms ≤ B.2.2.1) (kk : ∀ r σ' R', Z (.returned r) σ' R' → V X M B σ' R' (cn + mc) (sn + ms) (pc + 3) L (r.toList ++ st)) : V X M B σ R cn sn pc L stk :=
  x_callS ct cs.1 cs.2.1 cs.2.2 hlen hstk hcat hd hB hcs kk
theorem x_csi {M' : xM} {d nargs idx : Nat} {As : List Value} {z : Int} (ct : Ct M' d 0 0 As σ R (Zi σ R z)) (cs : xCs M.1.cls idx M' nargs) (hlen : As.length = nargs) (hstk : stk = As.reverse ++ st) (hcat : (st.map fun v => v.category).sum ≤ 8) (hd : decode M.2.1 pc = .ok (.invokestatic idx, 3))
    (hB : d + 1 ≤ B.1) (hcs : cn ≤ B.2.1 ∧ sn ≤ B.2.2.1) (kk : V X M B σ R cn sn (pc + 3) L (vi z :: st)) : V X M B σ R cn sn pc L stk :=
  x_cs ct cs hlen hstk hcat hd hB hcs (fun r σ' R' h => by
    obtain ⟨h1, h2, h3⟩ := h
    cases h1
    subst h2
    subst h3
    exact kk)
theorem x_csm {M' : xM} {d nargs idx : Nat} {As : List Value} {P : Int → xR → Prop} (ct : Ct M' d 0 0 As σ R (Zm σ P)) (cs : xCs M.1.cls idx M' nargs) (hlen : As.length = nargs) (hstk : stk = As.reverse ++ st) (hcat : (st.map fun v => v.category).sum ≤ 8) (hd : decode M.2.1 pc = .ok (.invokestatic idx, 3))
    (hB : d + 1 ≤ B.1) (hcs : cn ≤ B.2.1 ∧ sn ≤ B.2.2.1) (kk : ∀ z R1, P z R1 → V X M B σ R1 cn sn (pc + 3) L (vi z :: st)) : V X M B σ R cn sn pc L stk :=
  x_cs ct cs hlen hstk hcat hd hB hcs (fun r σ' R' h => by
    obtain ⟨z, h1, h2, h3⟩ := h
    cases h1
    subst h2
    exact kk z R' h3)
theorem x_csv {M' : xM} {d nargs idx : Nat} {As : List Value} {P : xR → Prop} (ct : Ct M' d 0 0 As σ R (Zv σ P)) (cs : xCs M.1.cls idx M' nargs) (hlen : As.length = nargs) (hstk : stk = As.reverse ++ st) (hcat : (st.map fun v => v.category).sum ≤ 8) (hd : decode M.2.1 pc = .ok (.invokestatic idx, 3))
    (hB : d + 1 ≤ B.1) (hcs : cn ≤ B.2.1 ∧ sn ≤ B.2.2.1) (kk : ∀ R1, P R1 → V X M B σ R1 cn sn (pc + 3) L st) : V X M B σ R cn sn pc L stk :=
  x_cs ct cs hlen hstk hcat hd hB hcs (fun r σ' R' h => by
    obtain ⟨h1, h2, h3⟩ := h
    cases h1
    subst h2
    exact kk R' h3)
theorem x_ci {M' : xM} {d mc ms nargs idx a : Nat} {As : List Value} {Z : xZ} (ct : Ct M' d mc ms (.ref a :: As) σ R Z) (cs : xCi M.1.cls idx M' nargs) (hlen : As.length = nargs) (hstk : stk = As.reverse ++ .ref a :: st) (hcat : (st.map fun v => v.category).sum ≤ 8) (hd : decode M.2.1 pc = .ok (.invokespecial idx, 3))
    (hB : d + 1 ≤ B.1) (hcs : cn + mc ≤ B.2.1 ∧ sn + ms ≤ B.2.2.1) (kk : ∀ r σ' R', Z (.returned r) σ' R' → V X M B σ' R' (cn + mc) (sn + ms) (pc + 3) L (r.toList ++ st)) : V X M B σ R cn sn pc L stk :=
  x_callI ct cs.1 cs.2.1 cs.2.2.1 cs.2.2.2.1 cs.2.2.2.2 hlen hstk hcat hd hB hcs kk
-- switches
theorem x_tableIn {dflt lo hi : Int} {offs : Array Int} {len : Nat} {a off : Int} {tgt : Nat} (hd : decode M.2.1 pc = .ok (.tableswitch dflt lo hi offs, len)) (ra : -2147483648 ≤ a ∧ a < 2147483648) (h : lo ≤ a ∧ a ≤ hi) (ho : offs[(a - lo).toNat]? = some off) (ht : (pc : Int) + off = (tgt : Int)) (k : V X M B σ R cn sn tgt L st) : V X M B σ R cn sn pc L (vi a :: st) := by
  obtain ⟨p, l, e, Rm, s, m, args, below, meth, c, N0, D, dA⟩ := X
  intro ok H locs ls hH hF hl
  exact lv_tableIn ok.1 ok.2.1 hd (by rw [iI_toInt ra]; omega) (by rw [iI_toInt ra]; omega) (by rw [iI_toInt ra]; exact ho) ht (k ok H locs ls hH hF hl)
theorem x_tableOut {dflt lo hi : Int} {offs : Array Int} {len : Nat} {a : Int} {tgt : Nat} (hd : decode M.2.1 pc = .ok (.tableswitch dflt lo hi offs, len)) (ra : -2147483648 ≤ a ∧ a < 2147483648) (h : a < lo ∨ hi < a) (ht : (pc : Int) + dflt = (tgt : Int)) (k : V X M B σ R cn sn tgt L st) : V X M B σ R cn sn pc L (vi a :: st) := by
  obtain ⟨p, l, e, Rm, s, m, args, below, meth, c, N0, D, dA⟩ := X
  intro ok H locs ls hH hF hl
  exact lv_tableOut ok.1 ok.2.1 hd (by rw [iI_toInt ra]; omega) ht (k ok H locs ls hH hF hl)
end XR2
