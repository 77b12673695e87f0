/-! pure rows: the desk's parser: its stack, its table -/
def dStk (R : xR) (S : xSt) : Prop := ∀ i : Nat, i ≤ S.length → R 16 ((S.length : Int) - i) = tp (S.drop i)
theorem dStk.nil {R R1 : xR} (e : R1 = xup R 16 0 0) : dStk R1 [] := by
  intro i hi
  have : i = 0 := by simpa using hi
  subst this
  show R1 16 (((0 : Nat) : Int) - ((0 : Nat) : Int)) = 0
  exact xr_e e (by omega)
theorem dStk.top {R : xR} {S : xSt} (h : dStk R S) : R 16 (S.length : Int) = tp S := by
  have := h 0 (Nat.zero_le _)
  rwa [show ((S.length : Int) - ((0 : Nat) : Int)) = S.length by omega] at this
theorem dStk.dr {R : xR} {S : xSt} (h : dStk R S) {n : Nat} (hn : n ≤ S.length) : dStk R (S.drop n) := by
  intro i hi
  rw [List.length_drop] at hi ⊢
  have := h (n + i) (by omega)
  rw [show (((S.length - n : Nat) : Int) - (i : Int)) = (S.length : Int) - ((n + i : Nat) : Int) by omega, this, List.drop_drop]
theorem dStk.push {R R1 : xR} {S : xSt} {a : auT} {x : Int} {w : Nat} (h : dStk R S) (e : R1 = xup R 16 ((S.length : Int) + 1) (a.2.2 (12 * tp S + x))) : dStk R1 (px a S x w) := by
  intro i hi
  have hl : (px a S x w).length = S.length + 1 := rfl
  rw [hl] at hi ⊢
  cases i with
  | zero =>
    rw [xr_e e (by omega)]
    rfl
  | succ i =>
    rw [xr_d e (by omega)]
    have := h i (by omega)
    rw [show (((S.length + 1 : Nat) : Int) - ((i + 1 : Nat) : Int)) = (S.length : Int) - i by omega, this]
    rfl
/-- what the table says by a letter or the end -/
def dLt (G : xGr) (a : auT) (u : Int → Int) (m k t v : Int) : Prop := ((t < 6 ∧ 0 ≤ a.2.2 (12 * k + t)) ∧ v = 1 + a.2.2 (12 * k + t)) ∨ (¬ (t < 6 ∧ 0 ≤ a.2.2 (12 * k + t)) ∧ ∃ j, (0 ≤ j ∧ j < m) ∧ a.2.1 k (u j) (G.2.2.1 (u j)) t ∧ v = if j = 0 then 1000 else -1 - j) ∨ (¬ (t < 6 ∧ 0 ≤ a.2.2 (12 * k + t)) ∧ (∀ j, 0 ≤ j → j < m → ¬ a.2.1 k (u j) (G.2.2.1 (u j)) t) ∧ v = 0)
/-- the desk's table is that of the automaton -/
def dLd (G : xGr) (a : auT) (u : Int → Int) (m : Int) (R : xR) : Prop := ∀ k, 0 ≤ k → k < a.1 → (∀ t, 0 ≤ t → t < 7 → dLt G a u m k t (R (400 + k) t)) ∧ ∀ x, 0 ≤ x → x < 6 → R (400 + k) (7 + x) = 1 + a.2.2 (12 * k + (6 + x))
theorem dLd.keep {G : xGr} {a : auT} {u : Int → Int} {m : Int} {R R1 : xR} (h : dLd G a u m R) (ha : a.1 ≤ 40) (e : ∀ k, 0 ≤ k → k < 40 → R1 (400 + k) = R (400 + k)) : dLd G a u m R1 := by
  intro k k0 k1
  rw [e k k0 (by omega)]
  exact h k k0 k1
/-- the automaton is whole and without conflict -/
def dCo (G : xGr) (a : auT) : Prop := gW G ∧ auOk G a ∧ auC G a ∧ G.2.1 10 = 6
/-- at a step of the parser -/
theorem dStep {G : xGr} {a : auT} {u : Int → Int} {m : Int} (hc : dCo G a) (hu : uOk G u m) {S : xSt} (hpath : pPath a S) {w : Int → Int} {n k z0 v : Int} {m1 : Nat} (hwd : ∀ k, 0 ≤ k → k < n → 0 ≤ w k ∧ w k < 6) (hk : 0 ≤ k) (hPR : PR G a w n (m1 + 1) S k z0) (hv : dLt G a u m (tp S) (la w n k) v) :
    (v = 1000 ∧ z0 = -1) ∨ (v = 0 ∧ z0 = k) ∨ ((0 < v ∧ v ≤ 40 ∧ k < n) ∧ v = 1 + a.2.2 (12 * tp S + la w n k) ∧ pPath a (px a S (la w n k) 1) ∧ PR G a w n m1 (px a S (la w n k) 1) (k + 1) z0) ∨
      ∃ j, (1 ≤ j ∧ j < m) ∧ v = -1 - j ∧ (G.2.2.1 (u j)).toNat ≤ S.length ∧ pPath a (rd G a S (u j)) ∧ PR G a w n m1 (rd G a S (u j)) k z0 ∧ 0 ≤ a.2.2 (12 * tp (S.drop (G.2.2.1 (u j)).toNat) + (6 + G.2.1 (u j))) ∧ a.2.2 (12 * tp (S.drop (G.2.2.1 (u j)).toNat) + (6 + G.2.1 (u j))) < a.1 ∧ (0 ≤ tp (S.drop (G.2.2.1 (u j)).toNat) ∧ tp (S.drop (G.2.2.1 (u j)).toNat) < a.1) ∧ (0 ≤ G.2.1 (u j) ∧ G.2.1 (u j) ≤ 5) := by
  obtain ⟨hw, ho, hcf, h6⟩ := hc
  have hla := la_rng hwd (k := k) hk
  have hrg := hpath.rg ho
  have h40 := ho.2.2.1
  have hstep := hPR.2
  rcases hv with ⟨⟨b1, b2⟩, b3⟩ | ⟨b1, j, b2, b3, b4⟩ | ⟨b1, b2, b3⟩
  · have hs9 : Shf a S (la w n k) := ⟨b1, b2⟩
    have hnext : PR G a w n m1 (px a S (la w n k) 1) (k + 1) z0 := by
      rcases hstep with ⟨-, q⟩ | ⟨S1, q, -⟩ | ⟨q, -⟩ | ⟨q, -⟩
      · exact q
      · exact absurd hs9 (q.noShf ho hcf hpath hla.1)
      · have := q.1; omega
      · exact absurd (Or.inl hs9) q
    have hnx := ho.2.2.2 (tp S) (la w n k) hrg.1 hrg.2 hla.1 (by omega)
    have hkn : k < n := by
      by_cases c : k < n
      · exact c
      · unfold la at b1; rw [if_neg c] at b1; omega
    have hv40 : a.2.2 (12 * tp S + la w n k) < a.1 := by
      rcases hnx with ⟨q, -⟩ | ⟨q, -⟩
      · omega
      · exact q.2
    refine Or.inr (Or.inr (Or.inl ⟨⟨by omega, by omega, hkn⟩, b3, ⟨⟨rfl, b2, hla.1, by show la w n k < 12; omega⟩, hpath⟩, hnext⟩))
  · have hnshf : ¬ Shf a S (la w n k) := b1
    by_cases c : j = 0
    · rw [c, hu.2.1] at b3
      rw [if_pos c] at b4
      have ht6 : la w n k = 6 := (it10 ho hpath b3).resolve_right (fun q => by have := q.2.1; have := hw.1.1.2.1; omega)
      have hacc : Acc a S (la w n k) := ⟨ht6, by rw [ht6, hw.2.1] at b3; exact b3⟩
      refine Or.inl ⟨b4, ?_⟩
      rcases hstep with ⟨q, -⟩ | ⟨S1, q, -⟩ | ⟨-, q⟩ | ⟨q, -⟩
      · exact absurd q hnshf
      · exact absurd hacc (q.noAcc hw ho hcf hpath)
      · exact q
      · exact absurd (Or.inr (Or.inl hacc)) q
    · rw [if_neg c] at b4
      have hus := hu.2.2.1 j (by omega) b2.2
      have hne : u j ≠ 10 := fun q => by have h1 := hus.2.1; have h2 := hw.1.1.2.1; omega
      have hred : Red G a S (la w n k) (rd G a S (u j)) := ⟨u j, hne, b3, rfl⟩
      have hnext : PR G a w n m1 (rd G a S (u j)) k z0 := by
        rcases hstep with ⟨q, -⟩ | ⟨S1, q, q2⟩ | ⟨q, -⟩ | ⟨q, -⟩
        · exact absurd q hnshf
        · have := Red.fun ho hcf hpath hred q; rw [this]; exact q2
        · exact absurd q (hred.noAcc hw ho hcf hpath)
        · exact absurd (Or.inr (Or.inr ⟨_, hred⟩)) q
      have hlen := (hw.1.2 (u j) hus.1 (by have h1 := hus.2.1; have h2 := hw.1.1.2.1; omega)).1
      have hpl : (G.2.2.1 (u j)).toNat ≤ S.length := (hpath.popn ho (G.2.2.1 (u j)).toNat b3 (by omega)).1
      have hrp := hred.path hw ho hpath
      have hnx9 : 0 ≤ a.2.2 (12 * tp (S.drop (G.2.2.1 (u j)).toNat) + (6 + G.2.1 (u j))) := hrp.1.2.1
      have hl5 := (hw.1.1.2.2 (u j) hus.1 hus.2.1).1
      have hrg2 := (pPath.drop (G.2.2.1 (u j)).toNat hpath).rg ho
      have hnx := ho.2.2.2 (tp (S.drop (G.2.2.1 (u j)).toNat)) (6 + G.2.1 (u j)) hrg2.1 hrg2.2 (by omega) (by omega)
      refine Or.inr (Or.inr (Or.inr ⟨j, by omega, b4, hpl, hrp, hnext, hnx9, ?_, hrg2, hl5⟩))
      rcases hnx with ⟨q, -⟩ | ⟨q, -⟩
      · omega
      · exact q.2
  · refine Or.inr (Or.inl ⟨b3, ?_⟩)
    have hnshf : ¬ Shf a S (la w n k) := b1
    rcases hstep with ⟨q, -⟩ | ⟨S1, ⟨r9, h9, q, -⟩, -⟩ | ⟨q, -⟩ | ⟨-, q⟩
    · exact absurd q hnshf
    · have hr9 := (auItems hw ho hpath _ _ _ q).1.resolve_left h9
      obtain ⟨j, j1, j2, j3⟩ := hu.2.2.2.2 r9 hr9
      exact absurd (by rw [j3]; exact q) (b2 j (by omega) j2)
    · exact absurd (by rw [hu.2.1, hw.2.1, q.1]; exact q.2) (b2 0 (Int.le_refl _) (by have := hu.1; omega))
    · exact q
