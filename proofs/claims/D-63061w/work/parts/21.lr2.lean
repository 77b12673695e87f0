/-! LR rows 2: names that may be empty are built; paths to a letter; how high a stack grows -/
def Emk (g : xGr) : Nat → Int → Prop
  | 0, _ => False
  | m + 1, x => ∃ r, gUs g r ∧ g.2.1 r = x ∧ ∀ k, 0 ≤ k → k < g.2.2.1 r → 6 ≤ g.2.2.2 r k ∧ Emk g m (g.2.2.2 r k - 6)
theorem Emk.em {g : xGr} : ∀ (m : Nat) {x : Int}, Emk g m x → gEm g x := by
  intro m
  induction m with
  | zero => intro x h; exact h.elim
  | succ m ih =>
    rintro x ⟨r, h1, rfl, h2⟩
    exact gEm.mk h1 (fun k k1 k2 => ⟨(h2 k k1 k2).1, ih (h2 k k1 k2).2⟩)
theorem Emk.up {g : xGr} : ∀ (m : Nat) {x : Int}, Emk g m x → Emk g (m + 1) x := by
  intro m
  induction m with
  | zero => intro x h; exact h.elim
  | succ m ih =>
    rintro x ⟨r, h1, h2, h3⟩
    exact ⟨r, h1, h2, fun k k1 k2 => ⟨(h3 k k1 k2).1, ih (h3 k k1 k2).2⟩⟩
theorem Emk.name {g : xGr} (hw : gW g) {m : Nat} {x : Int} (h : Emk g m x) : 0 ≤ x ∧ x ≤ 5 := by
  cases m with
  | zero => exact h.elim
  | succ m =>
    obtain ⟨r, h1, rfl, -⟩ := h
    exact (hw.1.1.2.2 r h1.1 h1.2.1).1
theorem Emk.six {g : xGr} (hw : gW g) {x : Int} (h : gEm g x) : Emk g 6 x := by
  have hstep : ∀ m, (∀ y, Emk g (m + 1) y → Emk g m y) → ∀ y, Emk g (m + 2) y → Emk g (m + 1) y := by
    rintro m hm y ⟨r, h1, h2, h3⟩
    exact ⟨r, h1, h2, fun k k1 k2 => ⟨(h3 k k1 k2).1, hm _ (h3 k k1 k2).2⟩⟩
  have hcnt : ∀ m : Nat, (∀ y, Emk g (m + 1) y → Emk g m y) ∨ (m : Int) ≤ sumF (fun y => zc (Emk g m y)) 6 := by
    intro m
    induction m with
    | zero => exact Or.inr (sumF_0 6 (fun i _ _ => by have := zc_or (Emk g 0 i); omega))
    | succ m ih =>
      rcases ih with ih | ih
      · exact Or.inl (hstep m ih)
      · by_cases hs : ∀ y, Emk g (m + 1) y → Emk g m y
        · exact Or.inl (hstep m hs)
        · refine Or.inr ?_
          have hex : ∃ y, Emk g (m + 1) y ∧ ¬ Emk g m y := Classical.byContradiction (fun q => hs (fun y h1 => Classical.byContradiction (fun h2 => q ⟨y, h1, h2⟩)))
          obtain ⟨y, y1, y2⟩ := hex
          have hy := y1.name hw
          have hlt := sumF_lt (f := fun y => zc (Emk g m y)) (h := fun y => zc (Emk g (m + 1) y)) 6 (fun i _ _ => by
            by_cases c : Emk g m i
            · rw [zc_t c, zc_t (Emk.up m c)]; exact Int.le_refl _
            · rw [zc_f c]; have := zc_or (Emk g (m + 1) i); omega) ⟨y, hy.1, by omega, by rw [zc_f y2, zc_t y1]; decide⟩
          omega
  have hst : ∀ y, Emk g 7 y → Emk g 6 y := by
    rcases hcnt 6 with h6 | h6
    · exact h6
    · intro y hy
      have hn := hy.name hw
      apply Classical.byContradiction
      intro hne
      have hlt := sumF_lt (f := fun y => zc (Emk g 6 y)) (h := fun _ => 1) 6 (fun i _ _ => by have := zc_or (Emk g 6 i); omega) ⟨y, hn.1, by omega, by show zc (Emk g 6 y) < 1; rw [zc_f hne]; decide⟩
      have : sumF (fun _ => (1 : Int)) 6 = 6 := by decide
      omega
  exact h (Emk g 6) (fun r h1 h2 => hst _ ⟨r, h1, rfl, h2⟩)
/-- S1 is S with empty symbols on top -/
def Zp (S S1 : xSt) : Prop := ∃ P, S1 = P ++ S ∧ ∀ q ∈ P, q.2.2 = 0
theorem Zp.rf {S : xSt} : Zp S S := ⟨[], rfl, fun _ h => by cases h⟩
theorem Zp.trans {S S1 S2 : xSt} (h1 : Zp S S1) (h2 : Zp S1 S2) : Zp S S2 := by
  obtain ⟨P, rfl, p1⟩ := h1
  obtain ⟨Q, rfl, q1⟩ := h2
  exact ⟨Q ++ P, by rw [List.append_assoc], fun q hq => (List.mem_append.mp hq).elim (q1 q) (p1 q)⟩
theorem wt_app (P S : xSt) : wt (P ++ S) = wt P + wt S := by unfold wt; rw [List.map_append, List.sum_append]
theorem wt_0 {P : xSt} (h : ∀ q ∈ P, q.2.2 = 0) : wt P = 0 := by
  induction P with
  | nil => rfl
  | cons q P ih =>
    show q.2.2 + wt P = 0
    rw [h q List.mem_cons_self, ih (fun q hq => h q (List.mem_cons_of_mem _ hq))]
theorem Zp.wt {S S1 : xSt} (h : Zp S S1) : wt S1 = wt S := by
  obtain ⟨P, rfl, p1⟩ := h
  rw [wt_app, wt_0 p1, Nat.zero_add]
def hN (m : Nat) : Nat := 3 * m - 2
/-- a name of rank m is built -/
def NBs (g : xGr) (a : auT) (t : Int) (m : Nat) : Prop := ∀ (x : Int) (S : xSt), Emk g m x → pPath a S → (∀ r, gUs g r → g.2.1 r = x → a.2.1 (tp S) r 0 t) → ∃ n, Rc g a (S.length + hN m) n S t (px a S (6 + x) 0) ∧ pPath a (px a S (6 + x) 0)
/-- a run of empty symbols of an item is built, q - p of them -/
theorem BR {g : xGr} (hw : gW g) {a : auT} (ho : auOk g a) {t : Int} {m : Nat} (hnb : NBs g a t m) {r t1 : Int} : ∀ (d : Nat) (p : Int) (S : xSt) (b : Nat), S.length ≤ b → (d = 0 ∨ S.length + (d - 1) + hN m ≤ b) → pPath a S → a.2.1 (tp S) r p t1 → 0 ≤ p → p + d ≤ g.2.2.1 r → (∀ k, p ≤ k → k < p + d → 6 ≤ g.2.2.2 r k ∧ Emk g m (g.2.2.2 r k - 6)) → (∀ k, p ≤ k → k < p + d → gFs g r (k + 1) t1 t) →
    ∃ n S1, Rc g a b n S t S1 ∧ S1.length ≤ b ∧ pPath a S1 ∧ a.2.1 (tp S1) r (p + d) t1 ∧ S1.length = S.length + d ∧ S1.drop d = S ∧ Zp S S1 ∧ wt (S1.take d) = 0 := by
  intro d
  induction d with
  | zero => intro p S b hb1 hb2 h1 h2 _ _ _ _; exact ⟨0, S, ⟨rfl, hb1⟩, hb1, h1, by simpa using h2, rfl, rfl, Zp.rf, rfl⟩
  | succ d ih =>
    intro p S b hb1 hb2 h1 h2 h3 h4 h5 h6
    have hb3 : S.length + d + hN m ≤ b := by omega
    have hp := h5 p (Int.le_refl _) (by omega)
    have hm1 : 1 ≤ hN m := by
      cases m with
      | zero => exact hp.2.elim
      | succ m => unfold hN; omega
    have hit := auItems hw ho h1 r p t1 h2
    have hr := hit.1.rng hw
    obtain ⟨n1, k1, k2⟩ := hnb (g.2.2.2 r p - 6) S hp.2 h1 (fun r' u1 u2 => by
      have hl := (auItems hw ho h1)
      rcases hS : S with _ | ⟨q, S0⟩
      · subst hS
        show a.2.1 0 r' 0 t
        have h2' : a.2.1 0 r p t1 := h2
        rw [ho.1] at h2' ⊢
        exact gCl.closed r p t1 h2' (by omega) r' u1 (by omega) t (h6 p (Int.le_refl _) (by omega))
      · subst hS
        show a.2.1 q.1 r' 0 t
        have h2' : a.2.1 q.1 r p t1 := h2
        rw [h1.st ho] at h2' ⊢
        exact gCl.closed r p t1 h2' (by omega) r' u1 (by omega) t (h6 p (Int.le_refl _) (by omega)))
    have e6 : 6 + (g.2.2.2 r p - 6) = g.2.2.2 r p := by omega
    rw [e6] at k1 k2
    have hx := (hw.1.2 r hr.1 hr.2).2 p h3 (by omega)
    have hpush := h1.push ho h2 ⟨h3, by omega⟩ (by omega) 0
    obtain ⟨n2, S1, j1, j0, j2, j3, j4, j5, j6, j7⟩ := ih (p + 1) (px a S (g.2.2.2 r p) 0) b (by show S.length + 1 ≤ b; omega) (by show d = 0 ∨ S.length + 1 + (d - 1) + hN m ≤ b; omega) k2 hpush.2 (by omega) (by omega) (fun k q1 q2 => h5 k (by omega) (by omega)) (fun k q1 q2 => h6 k (by omega) (by omega))
    have hlen : (px a S (g.2.2.2 r p) 0).length = S.length + 1 := rfl
    rw [hlen] at j4
    refine ⟨n1 + n2, S1, (Rc.mono (by omega) k1).trans j1, j0, j2, ?_, by omega, ?_, ?_, ?_⟩
    · rw [show p + ((d + 1 : Nat) : Int) = p + 1 + (d : Int) by omega]; exact j3
    · rw [show d + 1 = d + 1 from rfl, ← List.drop_drop, j5]; rfl
    · exact Zp.trans ⟨[(a.2.2 (12 * tp S + g.2.2.2 r p), g.2.2.2 r p, 0)], rfl, fun q hq => by rw [List.mem_singleton.mp hq]⟩ j6
    · obtain ⟨P, rfl, p1⟩ := j6
      refine wt_0 (fun q hq => ?_)
      have hlP : P.length = d := by rw [List.length_append] at j4; rw [hlen] at j4; omega
      rw [show P ++ px a S (g.2.2.2 r p) 0 = (P ++ [(a.2.2 (12 * tp S + g.2.2.2 r p), g.2.2.2 r p, 0)]) ++ S by rw [List.append_assoc]; rfl, List.take_left' (by rw [List.length_append, hlP]; rfl)] at hq
      rcases List.mem_append.mp hq with hq | hq
      · exact p1 q hq
      · rw [List.mem_singleton.mp hq]
theorem NB {g : xGr} (hw : gW g) {a : auT} (ho : auOk g a) {t : Int} : ∀ m, NBs g a t m := by
  intro m
  induction m with
  | zero => intro x S h; exact h.elim
  | succ m ih =>
    rintro x S ⟨r, h1, rfl, h2⟩ h3 h4
    have hl := (hw.1.1.2.2 r h1.1 h1.2.1)
    have h0 := h4 r h1 rfl
    have hd0 : m = 0 → (g.2.2.1 r).toNat = 0 := fun e => by
      apply Classical.byContradiction
      intro q
      have := (h2 0 (Int.le_refl _) (by omega)).2
      rw [e] at this
      exact this.elim
    have hl4 := hl.2.1.2
    obtain ⟨n, S1, j1, j0, j2, j3, j4, j5, j6, j7⟩ := BR hw ho ih (r := r) (t1 := t) (g.2.2.1 r).toNat 0 S (S.length + hN (m + 1)) (by omega) (by unfold hN; omega) h3 h0 (Int.le_refl _) (by omega) (fun k k1 k2 => h2 k k1 (by omega)) (fun k k1 k2 => Or.inr ⟨fun j q1 q2 => ⟨(h2 j (by omega) q2).1, Emk.em m (h2 j (by omega) q2).2⟩, rfl⟩)
    have hr10 : r ≠ 10 := by have := h1.2.1; have := hw.1.1.2.1; omega
    have hred : Red g a S1 t (px a S (6 + g.2.1 r) 0) := ⟨r, hr10, by rw [show g.2.2.1 r = 0 + ((g.2.2.1 r).toNat : Int) by omega]; exact j3, by unfold rd; rw [j5, j7]⟩
    have hb4 : (px a S (6 + g.2.1 r) 0).length ≤ S.length + hN (m + 1) := by
      show S.length + 1 ≤ _
      unfold hN
      omega
    exact ⟨n + 1, j1.trans (Rc.one hred j0 hb4), hred.path hw ho j2⟩
-- ===== paths from a symbol to a letter =====
def FPx (g : xGr) : List (Int × Int) → Int → Int → Prop
  | [], y, t => y < 6 ∧ t = y
  | q :: π, y, t => 6 ≤ y ∧ gUs g q.1 ∧ g.2.1 q.1 = y - 6 ∧ (0 ≤ q.2 ∧ q.2 < g.2.2.1 q.1) ∧ (∀ k, 0 ≤ k → k < q.2 → 6 ≤ g.2.2.2 q.1 k ∧ gEm g (g.2.2.2 q.1 k - 6)) ∧ FPx g π (g.2.2.2 q.1 q.2) t
def sumJ (π : List (Int × Int)) : Int := (π.map (fun q => q.2)).sum
theorem FPx.fi {g : xGr} : ∀ {π : List (Int × Int)} {y t : Int}, FPx g π y t → (y < 6 ∧ t = y) ∨ (6 ≤ y ∧ gFi g (y - 6) t) := by
  intro π
  induction π with
  | nil => intro y t h; exact Or.inl h
  | cons q π ih =>
    rintro y t ⟨h1, h2, h3, h4, h5, h6⟩
    refine Or.inr ⟨h1, ?_⟩
    rw [← h3]
    exact gFi.mk h2 h4.1 h4.2 h5 (ih h6)
theorem FPx.of {g : xGr} (hw : gW g) {x t : Int} (h : gFi g x t) : ∃ π, FPx g π (6 + x) t := by
  refine h (fun x t => ∃ π, FPx g π (6 + x) t) (fun r j t h1 h2 h3 h4 h5 => ?_)
  have hl := (hw.1.1.2.2 r h1.1 h1.2.1).1
  rcases h5 with h5 | ⟨h5, π, h6⟩
  · exact ⟨[(r, j)], by omega, h1, by show g.2.1 r = 6 + g.2.1 r - 6; omega, ⟨h2, h3⟩, h4, h5⟩
  · rw [show 6 + (g.2.2.2 r j - 6) = g.2.2.2 r j by omega] at h6
    exact ⟨(r, j) :: π, by omega, h1, by show g.2.1 r = 6 + g.2.1 r - 6; omega, ⟨h2, h3⟩, h4, h6⟩
/-- along a path from the symbol behind an item's dot (its empty prefix first) the letter comes to be shifted -/
theorem FI {g : xGr} (hw : gW g) {a : auT} (ho : auOk g a) {t : Int} (ht : 0 ≤ t ∧ t < 6) : ∀ (π : List (Int × Int)) (S : xSt) (r p t1 j : Int), pPath a S → a.2.1 (tp S) r p t1 → 0 ≤ p → p ≤ j → j < g.2.2.1 r → (∀ k, p ≤ k → k < j → 6 ≤ g.2.2.2 r k ∧ gEm g (g.2.2.2 r k - 6)) → FPx g π (g.2.2.2 r j) t →
    ∃ n S1, Rc g a (S.length + (j - p).toNat + 3 * π.length + 16) n S t S1 ∧ pPath a S1 ∧ Shf a S1 t ∧ (S1.length : Int) = S.length + (j - p) + sumJ π ∧ Zp S S1 := by
  intro π
  induction π with
  | nil =>
    rintro S r p t1 j h1 h2 h3 h4 h5 h6 ⟨h7, h8⟩
    obtain ⟨n, S1, j1, j0, j2, j3, j4, j5, j6, j7⟩ := BR hw ho (NB hw ho 6) (t := t) (r := r) (t1 := t1) (j - p).toNat p S (S.length + (j - p).toNat + 3 * ([] : List (Int × Int)).length + 16) (by omega) (by right; show S.length + ((j - p).toNat - 1) + 16 ≤ S.length + (j - p).toNat + 0 + 16; omega) h1 h2 h3 (by omega) (fun k k1 k2 => ⟨(h6 k k1 (by omega)).1, Emk.six hw (h6 k k1 (by omega)).2⟩)
      (fun k k1 k2 => Or.inl ⟨j, by omega, h5, fun i i1 i2 => h6 i (by omega) i2, Or.inl ⟨h7, h8⟩⟩)
    rw [show p + ((j - p).toNat : Int) = j by omega] at j3
    have hit := auItems hw ho j2 r j t1 j3
    have hpush := (j2.push ho j3 ⟨by omega, h5⟩ (by omega) 1).1
    rw [← h8] at hpush
    refine ⟨n, S1, j1, j2, ⟨ht.2, hpush.1.2.1⟩, ?_, j6⟩
    show (S1.length : Int) = S.length + (j - p) + 0
    omega
  | cons q π ih =>
    rintro S r p t1 j h1 h2 h3 h4 h5 h6 hF
    have hFi := hF.fi
    obtain ⟨f1, f2, f3, f4, f5, f6⟩ := hF
    have hl := (hw.1.1.2.2 q.1 f2.1 f2.2.1).2.1
    obtain ⟨n, S1, j1, j0, j2, j3, j4, j5, j6, j7⟩ := BR hw ho (NB hw ho 6) (t := t) (r := r) (t1 := t1) (j - p).toNat p S (S.length + (j - p).toNat + 3 * (q :: π).length + 16) (by omega) (by right; show S.length + ((j - p).toNat - 1) + 16 ≤ _; omega) h1 h2 h3 (by omega) (fun k k1 k2 => ⟨(h6 k k1 (by omega)).1, Emk.six hw (h6 k k1 (by omega)).2⟩)
      (fun k k1 k2 => Or.inl ⟨j, by omega, h5, fun i i1 i2 => h6 i (by omega) i2, hFi⟩)
    rw [show p + ((j - p).toNat : Int) = j by omega] at j3
    have hit := auItems hw ho j2 r j t1 j3
    obtain ⟨t2, ht2⟩ := gFs_some hw hit.1 t1 (g.2.2.1 r - (j + 1)).toNat (j + 1) (by omega) (fun _ => by omega) (by omega)
    have h0 : a.2.1 (tp S1) q.1 0 t2 := by
      rcases hS : S1 with _ | ⟨q', S0⟩
      · subst hS
        show a.2.1 0 q.1 0 t2
        have h2' : a.2.1 0 r j t1 := j3
        rw [ho.1] at h2' ⊢
        exact gCl.closed r j t1 h2' h5 q.1 f2 (by omega) t2 ht2
      · subst hS
        show a.2.1 q'.1 q.1 0 t2
        have h2' : a.2.1 q'.1 r j t1 := j3
        rw [j2.st ho] at h2' ⊢
        exact gCl.closed r j t1 h2' h5 q.1 f2 (by omega) t2 ht2
    obtain ⟨n2, S2, k1, k2, k3, k4, k5⟩ := ih S1 q.1 0 t2 q.2 j2 h0 (Int.le_refl _) f4.1 f4.2 f5 f6
    refine ⟨n + n2, S2, j1.trans (Rc.mono ?_ k1), k2, k3, ?_, j6.trans k5⟩
    · rw [j4, List.length_cons]
      omega
    · rw [k4, j4]
      show _ = (S.length : Int) + (j - p) + (q.2 + sumJ π)
      omega
-- ===== the shortest path =====
theorem FPx.split {g : xGr} : ∀ {π1 : List (Int × Int)} {q : Int × Int} {π2 : List (Int × Int)} {y t : Int}, FPx g (π1 ++ q :: π2) y t → FPx g (q :: π2) (6 + g.2.1 q.1) t ∧ ∀ π3, FPx g π3 (6 + g.2.1 q.1) t → FPx g (π1 ++ π3) y t := by
  intro π1
  induction π1 with
  | nil =>
    rintro q π2 y t h
    have h3 : g.2.1 q.1 = y - 6 := h.2.2.1
    have e : 6 + g.2.1 q.1 = y := by omega
    rw [e]
    exact ⟨h, fun _ h => h⟩
  | cons q1 π1 ih =>
    rintro q π2 y t ⟨h1, h2, h3, h4, h5, h6⟩
    obtain ⟨i1, i2⟩ := ih h6
    exact ⟨i1, fun π3 h => ⟨h1, h2, h3, h4, h5, i2 π3 h⟩⟩
theorem FPx.short {g : xGr} {t : Int} : ∀ {π : List (Int × Int)} {y : Int}, FPx g π y t → ¬ (π.map (fun q => g.2.1 q.1)).Nodup → ∃ π1, FPx g π1 y t ∧ π1.length < π.length := by
  intro π
  induction π with
  | nil => intro y _ h; exact absurd List.nodup_nil h
  | cons q π ih =>
    intro y hF hn
    by_cases hm : g.2.1 q.1 ∈ π.map (fun q => g.2.1 q.1)
    · obtain ⟨q2, m1, m2⟩ := List.mem_map.mp hm
      obtain ⟨s, u, rfl⟩ := List.append_of_mem m1
      have e : 6 + g.2.1 q2.1 = y := by have := hF.2.2.1; omega
      have h1 := (FPx.split hF.2.2.2.2.2).1
      rw [e] at h1
      refine ⟨q2 :: u, h1, ?_⟩
      rw [List.length_cons, List.length_cons, List.length_append, List.length_cons]
      omega
    · have hn2 : ¬ (π.map (fun q => g.2.1 q.1)).Nodup := fun h => hn (by rw [List.map_cons]; exact List.nodup_cons.mpr ⟨hm, h⟩)
      obtain ⟨π1, p1, p2⟩ := ih hF.2.2.2.2.2 hn2
      exact ⟨q :: π1, ⟨hF.1, hF.2.1, hF.2.2.1, hF.2.2.2.1, hF.2.2.2.2.1, p1⟩, by rw [List.length_cons, List.length_cons]; omega⟩
theorem pigeon : ∀ (n : Nat) (l : List Int), l.Nodup → (∀ x ∈ l, 0 ≤ x ∧ x < (n : Int)) → l.length ≤ n := by
  intro n
  induction n with
  | zero =>
    intro l _ h
    cases l with
    | nil => exact Nat.le_refl _
    | cons x l => have := h x List.mem_cons_self; omega
  | succ n ih =>
    intro l hn h
    by_cases hm : (n : Int) ∈ l
    · have h1 := ih (l.erase (n : Int)) (hn.erase _) (fun x hx => by
        have h2 := (hn.mem_erase_iff).mp hx
        have h3 := h x h2.2
        have := h2.1
        omega)
      have := List.length_erase_of_mem hm
      omega
    · have := ih l hn (fun x hx => by
        have h3 := h x hx
        have : x ≠ (n : Int) := fun e => hm (e ▸ hx)
        omega)
      omega
theorem FPx.nm {g : xGr} (hw : gW g) {t : Int} : ∀ {π : List (Int × Int)} {y : Int}, FPx g π y t → ∀ q ∈ π, gUs g q.1 ∧ (0 ≤ g.2.1 q.1 ∧ g.2.1 q.1 ≤ 5) ∧ (0 ≤ q.2 ∧ q.2 ≤ 3) := by
  intro π
  induction π with
  | nil => intro y _ q hq; cases hq
  | cons q1 π ih =>
    intro y hF q hq
    rcases List.mem_cons.mp hq with rfl | hq
    · have hl := hw.1.1.2.2 q.1 hF.2.1.1 hF.2.1.2.1
      exact ⟨hF.2.1, hl.1, by have := hF.2.2.2.1; omega⟩
    · exact ih hF.2.2.2.2.2 q hq
theorem sumJ_app (p q : List (Int × Int)) : sumJ (p ++ q) = sumJ p + sumJ q := by unfold sumJ; rw [List.map_append, List.sum_append]
theorem sumJ_le : ∀ (π : List (Int × Int)), (∀ q ∈ π, 0 ≤ q.2 ∧ q.2 ≤ 3) → 0 ≤ sumJ π ∧ sumJ π ≤ 3 * π.length := by
  intro π
  induction π with
  | nil => intro _; exact ⟨by show (0 : Int) ≤ 0; omega, by show (0 : Int) ≤ 3 * 0; omega⟩
  | cons q π ih =>
    intro h
    have h1 := h q List.mem_cons_self
    have h2 := ih (fun q hq => h q (List.mem_cons_of_mem _ hq))
    have e : sumJ (q :: π) = q.2 + sumJ π := rfl
    rw [e, List.length_cons]
    omega
theorem sumJ_mem : ∀ (π : List (Int × Int)) (q : Int × Int), (∀ q ∈ π, 0 ≤ q.2 ∧ q.2 ≤ 3) → q ∈ π → q.2 ≤ sumJ π := by
  intro π
  induction π with
  | nil => intro q _ h; cases h
  | cons q1 π ih =>
    intro q h hq
    have h1 := h q1 List.mem_cons_self
    have h2 := sumJ_le π (fun q hq => h q (List.mem_cons_of_mem _ hq))
    have e : sumJ (q1 :: π) = q1.2 + sumJ π := rfl
    rw [e]
    rcases List.mem_cons.mp hq with rfl | hq
    · omega
    · have := ih q (fun q hq => h q (List.mem_cons_of_mem _ hq)) hq
      omega
/-- where all paths are of one sum there is one of at most six steps, sixteen in all -/
theorem FPx.min {g : xGr} (hw : gW g) {y t : Int} (hex : ∃ π, FPx g π y t) (huni : ∀ π1 π2, FPx g π1 y t → FPx g π2 y t → sumJ π1 = sumJ π2) : ∃ π, FPx g π y t ∧ π.length ≤ 6 ∧ 0 ≤ sumJ π ∧ sumJ π ≤ 16 := by
  obtain ⟨n, ⟨π, hF, hlen⟩, hmin⟩ := pk_least (fun n => ∃ π, FPx g π y t ∧ π.length = n) (by obtain ⟨π, h⟩ := hex; exact ⟨π.length, π, h, rfl⟩)
  have hnd : (π.map (fun q => g.2.1 q.1)).Nodup := Classical.byContradiction (fun q => by
    obtain ⟨π1, p1, p2⟩ := hF.short q
    exact hmin π1.length (by omega) ⟨π1, p1, rfl⟩)
  have hnm := FPx.nm hw hF
  have hrange : ∀ x ∈ π.map (fun q => g.2.1 q.1), 0 ≤ x ∧ x < ((6 : Nat) : Int) := fun x hx => by
    obtain ⟨q, q1, rfl⟩ := List.mem_map.mp hx
    have := (hnm q q1).2.1
    omega
  have h6 := pigeon 6 _ hnd hrange
  rw [List.length_map] at h6
  have hs := sumJ_le π (fun q hq => (hnm q hq).2.2)
  refine ⟨π, hF, h6, hs.1, ?_⟩
  by_cases h5 : π.length ≤ 5
  · omega
  · have hl6 : π.length = 6 := by omega
    have hne : π ≠ [] := fun e => by rw [e] at hl6; cases hl6
    have hsplit : π = π.dropLast ++ [π.getLast hne] := (List.dropLast_concat_getLast hne).symm
    generalize hq6 : π.getLast hne = q6 at hsplit
    generalize hpa : π.dropLast = πa at hsplit
    have hla : πa.length = 5 := by rw [← hpa, List.length_dropLast, hl6]
    have hF' := hF
    rw [hsplit] at hF'
    obtain ⟨g1, g2⟩ := FPx.split hF'
    have hm6 : q6 ∈ π := by rw [hsplit]; exact List.mem_append_right _ (List.mem_singleton.mpr rfl)
    have hsa := sumJ_le πa (fun q hq => (hnm q (by rw [hsplit]; exact List.mem_append_left _ hq)).2.2)
    have hse : sumJ π = sumJ πa + q6.2 := by
      rw [hsplit, sumJ_app]
      show sumJ πa + (q6.2 + 0) = _
      omega
    by_cases hj : q6.2 ≤ 1
    · omega
    · -- the second symbol of the last rule is a name on the path: a longer path
      have f4 := g1.2.2.2.1
      have f5 := g1.2.2.2.2.1
      have h1 := f5 1 (by omega) (by omega)
      have hu := g1.2.1
      have hrng := (hw.1.1.2.2 q6.1 hu.1 hu.2.1).2.2 1 (by omega) (by omega)
      have hz : g.2.2.2 q6.1 1 - 6 ∈ π.map (fun q => g.2.1 q.1) := by
        apply Classical.byContradiction
        intro hz
        have := pigeon 6 ((g.2.2.2 q6.1 1 - 6) :: π.map (fun q => g.2.1 q.1)) (List.nodup_cons.mpr ⟨hz, hnd⟩) (fun x hx => by
          rcases List.mem_cons.mp hx with rfl | hx
          · omega
          · exact hrange x hx)
        rw [List.length_cons, List.length_map] at this
        omega
      obtain ⟨q, q1, q2⟩ := List.mem_map.mp hz
      obtain ⟨s, u, hsu⟩ := List.append_of_mem q1
      have hF2 := hF
      rw [hsu] at hF2
      have h3 := (FPx.split hF2).1
      have e3 : 6 + g.2.1 q.1 = g.2.2.2 q6.1 1 := by
        have : g.2.1 q.1 = g.2.2.2 q6.1 1 - 6 := q2
        omega
      rw [e3] at h3
      have hlong : FPx g (πa ++ (q6.1, 1) :: q :: u) y t := g2 _ ⟨g1.1, hu, g1.2.2.1, ⟨by omega, by show (1 : Int) < g.2.2.1 q6.1; omega⟩, fun k k1 k2 => f5 k k1 (by have : k < 1 := k2; omega), h3⟩
      have hequ := huni _ _ hF hlong
      have hmem : q6 ∈ q :: u := by
        have e1 : π.getLast? = some q6 := by rw [List.getLast?_eq_some_getLast hne, hq6]
        rw [hsu, List.getLast?_append] at e1
        have e2 : (q :: u).getLast? = some ((q :: u).getLast (by simp)) := List.getLast?_eq_some_getLast (by simp)
        rw [e2] at e1
        have e3 : (q :: u).getLast (by simp) = q6 := by simpa using e1
        rw [← e3]
        exact List.getLast_mem _
      have hqu := sumJ_mem (q :: u) q6 (fun z hz => (hnm z (by rw [hsu]; exact List.mem_append_right _ hz)).2.2) hmem
      rw [sumJ_app] at hequ
      have e4 : sumJ ((q6.1, 1) :: q :: u) = 1 + sumJ (q :: u) := rfl
      rw [e4, hse] at hequ
      omega
