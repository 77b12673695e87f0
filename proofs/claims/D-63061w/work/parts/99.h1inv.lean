/-! the law: what holds between two operations -/
/-- what was typed is the same on both sides -/
def jTy (σ : xS) (R : xR) (n : Nat) : Prop := sbI σ R 10 n ∧ R 30 2 = (n : Int) ∧ ∀ i, 0 ≤ i → i < (n : Int) → R 11 i = R 32 i ∧ 0 ≤ R 11 i ∧ R 11 i < 128
/-- the text -/
def jTx (R : xR) : Prop := R 1 5 = R 30 15 ∧ (0 ≤ R 1 5 ∧ R 1 5 ≤ 16) ∧ ∀ k, 0 ≤ k → k < R 1 5 → R 8 k = R 48 k ∧ 0 ≤ R 8 k ∧ R 8 k < 6
/-- the costs -/
def jCs (R : xR) : Prop := ∀ x, 0 ≤ x → x < 6 → R 6 x = R 51 x ∧ R 7 x = R 52 x ∧ (1 ≤ R 6 x ∧ R 6 x ≤ 3) ∧ (1 ≤ R 7 x ∧ R 7 x ≤ 3)
/-- what was found, and its price -/
def jFd (R : xR) (D : List (List Int × Int)) : Prop := mFd R D ∧ dFd R D ∧ D.length ≤ 40 ∧ R 1 22 = R 30 23 ∧ (0 ≤ R 1 22 ∧ R 1 22 ≤ 3) ∧ (D = [] → R 1 22 = 0)
/-- whether it is compiled -/
def jCm (σ : xS) (R : xR) (e3 n3 : Int) (cap3 : Nat) (a : auT) (D : List (List Int × Int)) : Prop := (R 1 12 = 0 ∧ R 30 12 = 0 ∧ D = []) ∨ (R 1 12 = 1 ∧ (1 ≤ R 30 12 ∧ R 30 12 ≤ 40) ∧ mCo R a ∧ dCmp σ R (gM R) e3 n3 cap3 a)
/-- where the repairs come from -/
def jRp (R : xR) (a : auT) (D : List (List Int × Int)) (e0 : xEn) : Prop := D ≠ [] → 0 ≤ R 30 16 ∧ pR (gM R) a (R 48) (R 30 15) (R 30 16) ∧ enE (mEnv R) e0 ∧ (∀ x, 0 ≤ x → x < 6 → 1 ≤ e0.2.2.1 x ∧ e0.2.2.1 x ≤ 3) ∧ (∀ x, 0 ≤ x → x < 6 → 1 ≤ e0.2.2.2.1 x ∧ e0.2.2.2.1 x ≤ 3) ∧ ∀ q ∈ D, fdOk e0 q
/-- the script: at region 61, of whole numbers -/
def jSc (σ : xS) (R : xR) (len : Nat) : Prop := (σ 61).2 = (32, len) ∧ len ≤ 192 ∧ ∀ i, 0 ≤ i → i < (len : Int) → -2147483648 ≤ R 61 i ∧ R 61 i < 2147483648
/-- all of it -/
def jAll (σ : xS) (R : xR) (len : Nat) : Prop := ∃ (ρ : Int → Int) (e2 : Int) (cap2 : Nat) (e3 n3 : Int) (cap3 : Nat) (π : Int → Int) (e4 n4 : Int) (cap4 : Nat) (f : Int) (n : Nat) (D : List (List Int × Int)) (a : auT) (e0 : xEn), xsh σ mshape ∧ (σ 60).2 = (37, 1) ∧ jSc σ R len ∧ dBs σ R (gM R) ρ e2 cap2 e3 n3 cap3 π e4 n4 cap4 f ∧ jTy σ R n ∧ jTx R ∧ jCs R ∧ (∀ i, 0 ≤ i → i < 2310 → s7 (R 44 i)) ∧ (0 ≤ R 1 10 ∧ R 1 10 ≤ 40) ∧ jFd R D ∧ jCm σ R e3 n3 cap3 a D ∧ jRp R a D e0
/-- both answer the same for a step -/
theorem step_eq {R : xR} {D : List (List Int × Int)} (h : jFd R D) (hq : ∀ q ∈ D, q.1.length ≤ 6) (k i : Int) : (if k < 0 ∨ R 1 21 ≤ k ∨ i < 0 ∨ R 20 k ≤ i then -1 else R (450 + k) i) = (if k < 0 ∨ R 30 22 ≤ k ∨ i < 0 ∨ 6 < i then -1 else R 55 (7 * k + i)) := by
  obtain ⟨h1, h2, h3, -, -⟩ := h
  have e1 := h1.1
  have e2 := h2.2.1
  by_cases c : k < 0 ∨ R 1 21 ≤ k ∨ i < 0
  · rw [if_pos (by omega), if_pos (by omega)]
  · have hk : k.toNat < D.length := by omega
    obtain ⟨q, hq1⟩ : ∃ q, D[k.toNat]? = some q := ⟨_, List.getElem?_eq_getElem hk⟩
    obtain ⟨a1, a2, a3⟩ := h2.2.2 k.toNat q hq1
    obtain ⟨b1, b2⟩ := h1.2 k.toNat q hq1 (by omega)
    rw [show ((k.toNat : Nat) : Int) = k by omega] at a1 a3 b1
    have hl := hq q (List.mem_of_getElem? hq1)
    by_cases c2 : R 20 k ≤ i
    · rw [if_pos (by omega)]
      by_cases c3 : 6 < i
      · rw [if_pos (by omega)]
      · rw [if_neg (by omega)]
        have := b1 i.toNat (by omega)
        rw [show ((i.toNat : Nat) : Int) = i by omega, if_neg (by omega)] at this
        exact this.symm
    · rw [if_neg (by omega), if_neg (by omega)]
      have x1 := a3 i.toNat (by omega)
      have x2 := b1 i.toNat (by omega)
      rw [show ((i.toNat : Nat) : Int) = i by omega] at x1 x2
      rw [if_pos (by omega)] at x2
      rw [x1, x2]
/-- the same environment, but for places beyond -/
theorem env_q {R : xR} (hT : jTx R) (hC : jCs R) (p : Int) : enQ (dEv R p) (mEv R p) := ⟨hT.1, fun k k0 k1 => (hT.2.2 k k0 k1).1, fun x x0 x1 => ⟨(hC x x0 x1).1, (hC x x0 x1).2.1⟩, rfl⟩
theorem env_ok {R : xR} (hT : jTx R) (hC : jCs R) {p : Int} (hp : 0 ≤ p ∧ p ≤ R 1 5) : enOk (dEv R p) ∧ enOk (mEv R p) := by
  obtain ⟨t1, t2, t3⟩ := hT
  refine ⟨⟨t2, fun k k0 k1 => (t3 k k0 k1).2, fun x x0 x1 => (hC x x0 x1).2.2.1, fun x x0 x1 => (hC x x0 x1).2.2.2, hp⟩, ⟨by show 0 ≤ R 30 15 ∧ R 30 15 ≤ 16; omega, fun k k0 k1 => ?_, fun x x0 x1 => ?_, fun x x0 x1 => ?_, by show 0 ≤ p ∧ p ≤ R 30 15; omega⟩⟩
  · have k1' : k < R 30 15 := k1
    obtain ⟨q1, q2⟩ := t3 k k0 (by omega)
    show 0 ≤ R 48 k ∧ R 48 k < 6
    rw [← q1]; exact q2
  · obtain ⟨q1, q2, q3, q4⟩ := hC x x0 x1
    show 1 ≤ R 51 x ∧ R 51 x ≤ 3
    rw [← q1]; exact q3
  · obtain ⟨q1, q2, q3, q4⟩ := hC x x0 x1
    show 1 ≤ R 52 x ∧ R 52 x ≤ 3
    rw [← q2]; exact q4
theorem dRu.cg {σ : xS} {R : xR} {g g' : xGr} {ρ : Int → Int} {e : Int} {cap : Nat} (h : dRu σ R g ρ e cap) (hE : gE g g') : dRu σ R g' ρ e cap := by
  obtain ⟨h1, h2, h3, h4⟩ := h
  have e1 := hE.1
  refine ⟨⟨by rw [← e1]; exact h1.1, by rw [← e1]; exact h1.2.1, fun r r0 r1 => ?_⟩, by rw [← e1]; exact h2, h3, fun i i0 i1 => ?_⟩
  · rw [← e1] at r1
    obtain ⟨q1, q2, q3⟩ := hE.2 r r0 r1
    obtain ⟨p1, p2, p3⟩ := h1.2.2 r r0 r1
    refine ⟨by rw [← q1]; exact p1, by rw [← q2]; exact p2, fun k k0 k1 => ?_⟩
    rw [← q2] at k1
    rw [← q3 k k0 k1]
    exact p3 k k0 k1
  · rw [← e1] at i1
    obtain ⟨q1, q2, q3⟩ := hE.2 i i0 i1
    obtain ⟨r1, r2, r3⟩ := h4 i i0 i1
    have hl := (h1.2.2 i i0 i1).2.1
    exact ⟨r1, r2.cg q1.symm (by rw [q2]) (fun k k0 k1 => (q3 k k0 (by omega)).symm), r3⟩
