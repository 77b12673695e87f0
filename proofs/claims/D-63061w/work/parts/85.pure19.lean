/-! pure rows: how many items there are -/
theorem sumF_cg {f h : Int → Int} (n : Nat) (e : ∀ i : Int, 0 ≤ i → i < n → f i = h i) : sumF f n = sumF h n := Int.le_antisymm (sumF_le n (fun i a b => Int.le_of_eq (e i a b))) (sumF_le n (fun i a b => Int.le_of_eq (e i a b).symm))
theorem sumF_add (f : Int → Int) (a : Nat) : ∀ b : Nat, sumF f (a + b) = sumF f a + sumF (fun c => f ((a : Int) + c)) b := by
  intro b
  induction b with
  | zero => show sumF f a = sumF f a + 0; omega
  | succ b ih =>
    show sumF f (a + b) + f ((a + b : Nat) : Int) = sumF f a + (sumF (fun c => f ((a : Int) + c)) b + f ((a : Int) + (b : Int)))
    rw [ih, Int.natCast_add]
    omega
theorem sumF_blk (f : Int → Int) (m : Nat) : ∀ n : Nat, sumF f (m * n) = sumF (fun k => sumF (fun c => f ((m : Int) * k + c)) m) n := by
  intro n
  induction n with
  | zero => rfl
  | succ n ih =>
    rw [Nat.mul_succ, sumF_add, ih]
    show _ = sumF (fun k => sumF (fun c => f ((m : Int) * k + c)) m) n + sumF (fun c => f ((m : Int) * (n : Int) + c)) m
    rw [Int.natCast_mul]
theorem sumF_pl (f h : Int → Int) : ∀ n : Nat, sumF (fun i => f i + h i) n = sumF f n + sumF h n := by
  intro n
  induction n with
  | zero => rfl
  | succ n ih =>
    show sumF (fun i => f i + h i) n + (f n + h n) = sumF f n + f n + (sumF h n + h n)
    rw [ih]
    omega
theorem sumF_z (f : Int → Int) (n : Nat) (e : ∀ i : Int, 0 ≤ i → i < n → f i = 0) : sumF f n = 0 := by
  induction n with
  | zero => rfl
  | succ n ih =>
    show sumF f n + f n = 0
    rw [ih (fun i a b => e i a (by omega)), e n (by omega) (by omega)]
    rfl
theorem sumF_one (F : Int → Int) (x : Int) : ∀ n : Nat, 0 ≤ x → x < n → sumF (fun r => zc (r = x) * F r) n = F x := by
  intro n
  induction n with
  | zero => intro a b; omega
  | succ n ih =>
    intro a b
    show sumF (fun r => zc (r = x) * F r) n + zc ((n : Int) = x) * F n = F x
    by_cases c : (n : Int) = x
    · rw [sumF_z _ n (fun i i0 i1 => by rw [zc_f (by omega)]; exact Int.zero_mul _), zc_t c, Int.one_mul, c]
      omega
    · rw [ih a (by omega), zc_f c, Int.zero_mul]
      omega
theorem sumF_re (F : Int → Int) (u : Int → Int) (N : Nat) : ∀ m : Nat, (∀ j, 0 ≤ j → j < (m : Int) → 0 ≤ u j ∧ u j < N) → (∀ i j, 0 ≤ i → i < (m : Int) → 0 ≤ j → j < (m : Int) → u i = u j → i = j) → sumF (fun j => F (u j)) m = sumF (fun r => zc (∃ j, 0 ≤ j ∧ j < (m : Int) ∧ u j = r) * F r) N := by
  intro m
  induction m with
  | zero =>
    intro _ _
    show (0 : Int) = _
    rw [sumF_z _ N (fun i _ _ => by
      rw [zc_f (by rintro ⟨j, j0, j1, -⟩; have : j < 0 := j1; omega)]
      exact Int.zero_mul _)]
  | succ m ih =>
    intro h1 h2
    show sumF (fun j => F (u j)) m + F (u m) = _
    rw [ih (fun j a b => h1 j a (by omega)) (fun i j a b c d => h2 i j a (by omega) c (by omega)), ← sumF_one F (u m) N (h1 m (by omega) (by omega)).1 (h1 m (by omega) (by omega)).2, ← sumF_pl]
    refine sumF_cg N (fun r r0 r1 => ?_)
    rw [← Int.add_mul]
    congr 1
    by_cases c : r = u m
    · rw [zc_t c, zc_f (by rintro ⟨j, j0, j1, j2⟩; have := h2 j m j0 (by omega) (by omega) (by omega) (j2.trans c); omega), zc_t ⟨m, by omega, by omega, c.symm⟩]
      rfl
    · rw [zc_f c, zc_iff (q := ∃ j, 0 ≤ j ∧ j < ((m + 1 : Nat) : Int) ∧ u j = r) ⟨fun ⟨j, j0, j1, j2⟩ => ⟨j, j0, by omega, j2⟩, fun ⟨j, j0, j1, j2⟩ => ⟨j, j0, by
        have : j ≠ m := fun e => c (by rw [← j2, e])
        omega, j2⟩⟩]
      omega
/-- how many items a state has -/
noncomputable def aCt (A : xIt) : Int := sumF (fun i => zc (A (i / 35) (i / 7 % 5) (i % 7))) 385
theorem aCt_m {R : xR} {k : Int} : sumF (fun c => mCt R (55 * k + c)) 55 = aCt (mIt R k) := by
  unfold aCt
  rw [show (385 : Nat) = 7 * 55 by decide, sumF_blk]
  refine sumF_cg 55 (fun c c0 c1 => ?_)
  unfold mCt
  refine sumF_cg 7 (fun t t0 t1 => ?_)
  refine zc_iff ?_
  unfold mIt
  rw [show ((7 : Nat) : Int) * c + t = 7 * c + t by rfl, show (7 * c + t) / 35 = c / 5 by omega, show (7 * c + t) / 7 % 5 = c % 5 by omega, show (7 * c + t) % 7 = t by omega, show 55 * k + 5 * (c / 5) + c % 5 = 55 * k + c by omega]
  exact ⟨fun q => ⟨by omega, by omega, by omega, q⟩, fun q => q.2.2.2⟩
theorem aCt_d {R : xR} {G : xGr} {u : Int → Int} {m k : Int} (hw : gW G) (hu : uOk G u m) (hs : dSt R m k) : sumF (fun i => zc (sH R (k + 1) i)) 448 = aCt (dIt R u m k) := by
  have hm := hu.1
  have e1 : sumF (fun i => zc (sH R (k + 1) i)) 448 = sumF (fun i => zc (sH R (k + 1) i)) (35 * m.toNat) := by
    have e2 : 448 = 35 * m.toNat + (448 - 35 * m.toNat) := by omega
    rw [e2, sumF_add, sumF_z (fun c => zc (sH R (k + 1) (((35 * m.toNat : Nat) : Int) + c))) _ (fun i i0 i1 => zc_f (fun q => by
      have := hs _ (by omega) (by omega) q
      omega))]
    omega
  rw [e1, sumF_blk]
  have e3 : sumF (fun j => sumF (fun c => zc (sH R (k + 1) (((35 : Nat) : Int) * j + c))) 35) m.toNat = sumF (fun j => (fun r => sumF (fun c => zc (dIt R u m k r (c / 7) (c % 7))) 35) (u j)) m.toNat := by
    refine sumF_cg _ (fun j j0 j1 => sumF_cg _ (fun c c0 c1 => zc_iff ?_))
    constructor
    · intro q
      refine ⟨j, by omega, rfl, by omega, by omega, ?_⟩
      rw [show (j * 5 + c / 7) * 7 + c % 7 = ((35 : Nat) : Int) * j + c by omega]
      exact q
    · rintro ⟨j', q1, q2, q3, q4, q⟩
      have e := hu.2.2.2.1 j' j q1.1 q1.2 j0 (by omega) q2
      rw [e, show (j * 5 + c / 7) * 7 + c % 7 = ((35 : Nat) : Int) * j + c by omega] at q
      exact q
  rw [e3, sumF_re (fun r => sumF (fun c => zc (dIt R u m k r (c / 7) (c % 7))) 35) u 11 m.toNat (fun j a b => by have := uOk.rng hw hu (j := j) ⟨a, by omega⟩; omega) (fun i j a b c d e => hu.2.2.2.1 i j a (by omega) c (by omega) e)]
  unfold aCt
  rw [show (385 : Nat) = 35 * 11 by decide, sumF_blk]
  refine sumF_cg 11 (fun r r0 r1 => ?_)
  have e4 : sumF (fun c => zc (dIt R u m k ((((35 : Nat) : Int) * r + c) / 35) ((((35 : Nat) : Int) * r + c) / 7 % 5) ((((35 : Nat) : Int) * r + c) % 7))) 35 = sumF (fun c => zc (dIt R u m k r (c / 7) (c % 7))) 35 := by
    refine sumF_cg _ (fun c c0 c1 => ?_)
    rw [show (((35 : Nat) : Int) * r + c) / 35 = r by omega, show (((35 : Nat) : Int) * r + c) / 7 % 5 = c / 7 by omega, show (((35 : Nat) : Int) * r + c) % 7 = c % 7 by omega]
  rw [e4]
  by_cases c : ∃ j, 0 ≤ j ∧ j < (m.toNat : Int) ∧ u j = r
  · rw [zc_t c, Int.one_mul]
  · rw [zc_f c, Int.zero_mul, sumF_z _ _ (fun i i0 i1 => zc_f (fun ⟨j, q1, q2, _⟩ => c ⟨j, q1.1, by omega, q2⟩))]
/-- the model's count -/
theorem mCt_all {R : xR} {a : auT} (h1 : 0 ≤ a.1) (h : ∀ k, 0 ≤ k → k < a.1 → mIt R k = a.2.1 k) : sumF (mCt R) (55 * a.1).toNat = sumF (fun k => aCt (a.2.1 k)) a.1.toNat := by
  rw [show (55 * a.1).toNat = 55 * a.1.toNat by omega, sumF_blk]
  refine sumF_cg _ (fun k k0 k1 => ?_)
  rw [← h k k0 (by omega)]
  exact aCt_m
