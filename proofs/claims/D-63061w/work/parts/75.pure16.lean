/-! pure rows: the desk's automaton in the making -/
theorem dIt_eq {R R1 : xR} {u : Int → Int} {m k : Int} (h : R1 (k + 1) = R (k + 1)) : dIt R1 u m k = dIt R u m k := by
  unfold dIt sH; rw [h]
theorem dSt_eq {R R1 : xR} {m k : Int} (h : R1 (k + 1) = R (k + 1)) (q : dSt R m k) : dSt R1 m k := by
  unfold dSt sH at *; rw [h]; exact q
theorem gCl_em {G : xGr} {A : xIt} (h : ∀ r p t, ¬ A r p t) : ∀ r p t, ¬ gCl G A r p t := fun r p t q => q (fun _ _ _ => False) (fun r p t w => h r p t w) (fun _ _ _ w => w.elim)
/-- where symbol y leads, as the desk writes it -/
def ix (y : Int) : Int := if y < 6 then y else y - 1
def cM (k y : Int) : Int := 12 * k + if y ≤ 6 then y else y - 1
def dld (a : auT) (k y : Int) : Int := if y = 6 then 0 else 1 + a.2.2 (12 * k + ix y)
/-- the desk's automaton in the making: k states are done and y symbols of the next -/
def dAu (R : xR) (u : Int → Int) (m : Int) (π : Int → Int) (a : auT) (k y : Int) : Prop := R 1 10 = a.1 ∧ (∀ i, 0 ≤ i → i < a.1 → dSt R m (π i) ∧ dIt R u m (π i) = a.2.1 i) ∧ ∀ i x, 0 ≤ i → 0 ≤ x → x < 13 → (i < k ∨ (i = k ∧ x < y)) → R (400 + i) x = dld a i x
/-- what a step of build leaves -/
def dNx (R : xR) (π : Int → Int) (k y : Int) (R3 : xR) : Prop := ((∀ c, 0 ≤ c → c < 448 → ¬ sH R (π (R 1 10) + 1) c) ∧ R3 = xup R (400 + k) y 0) ∨ ((¬ ∀ c, 0 ≤ c → c < 448 → ¬ sH R (π (R 1 10) + 1) c) ∧ ∃ z R2, 0 ≤ z ∧ nuP R π z R2 ∧ R3 = xup R2 (400 + k) y (1 + z))
theorem dld_up {a : auT} {s : Int → xIt} {N k y v i x : Int} (hy : y ≠ 6) (hk : 0 ≤ k) (h0 : 0 ≤ i) (hx : 0 ≤ x ∧ x < 13) (hy2 : 0 ≤ y ∧ y < 13) (h : i < k ∨ (i = k ∧ x < y)) : dld (N, s, up1 a.2.2 (12 * k + ix y) v) i x = dld a i x := by
  unfold dld
  by_cases c : x = 6
  · rw [if_pos c, if_pos c]
  · rw [if_neg c, if_neg c]
    show 1 + up1 a.2.2 (12 * k + ix y) v (12 * i + ix x) = _
    rw [up1_n _ _ (by unfold ix; split <;> split <;> omega)]
theorem dAu.step {R R' : xR} {G : xGr} {u π π' : Int → Int} {m k y n : Int} {a : auT} {c : Nat} (hu : uOk G u m) (hAu : dAu R u m π a k y) (hr : auR G c a) (hc : (c : Int) = cM k y) (hk : 0 ≤ k ∧ k < a.1) (h40 : a.1 ≤ 40) (hy : 0 ≤ y ∧ y ≤ 12) (hn : a.1 ≤ n) (hπ : ∀ i, 0 ≤ i → i < n → π' i = π i)
    (hs1 : dSt R' m (π' a.1)) (hs2 : dIt R' u m (π' a.1) = gCl G (gGd G (dIt R u m (π k)) y)) (hb : ∀ i, 0 ≤ i → i < a.1 → R' (π i + 1) = R (π i + 1)) (h10 : R' 1 10 = R 1 10) (hl : ∀ i, 0 ≤ i → i < 40 → R' (400 + i) = R (400 + i)) (hπl : ∀ i, 0 ≤ i → i ≤ a.1 → 1000 ≤ π' i) :
    (∀ R3, dNx R' π' k y R3 → ∃ (b : auT) (c' : Nat), auR G c' b ∧ (c' : Int) = cM k (y + 1) ∧ b.1 ≤ 40 ∧ a.1 ≤ b.1 ∧ b.1 ≤ a.1 + 1 ∧ dAu R3 u m π' b k (y + 1)) ∧ ((¬ ∀ c, 0 ≤ c → c < 448 → ¬ sH R' (π' (R' 1 10) + 1) c) → R' 1 10 = 40 → (∀ k, 0 ≤ k → k < 40 → ¬ alB R' (π' k) (π' (R' 1 10))) → ∃ b, auF G b ∧ 40 < b.1) := by
  obtain ⟨e10, hst, hld⟩ := hAu
  have hst' : ∀ i, 0 ≤ i → i < a.1 → dSt R' m (π' i) ∧ dIt R' u m (π' i) = a.2.1 i := fun i i0 i1 => by
    rw [hπ i i0 (by omega), dIt_eq (hb i i0 i1)]
    exact ⟨dSt_eq (hb i i0 i1) (hst i i0 i1).1, (hst i i0 i1).2⟩
  have hld' : ∀ i x, 0 ≤ i → 0 ≤ x → x < 13 → (i < k ∨ (i = k ∧ x < y)) → R' (400 + i) x = dld a i x := fun i x i0 x0 x1 h => by
    rw [hl i i0 (by omega)]; exact hld i x i0 x0 x1 h
  have hem := dSt_em hu hs1
  rw [h10, e10, hem, hs2, (hst k hk.1 hk.2).2]
  have hN : ∀ R3, dNx R' π' k y R3 → ((¬ ∃ r p t, gCl G (gGd G (a.2.1 k) y) r p t) ∧ R3 = xup R' (400 + k) y 0) ∨ ((∃ r p t, gCl G (gGd G (a.2.1 k) y) r p t) ∧ ∃ z R2, 0 ≤ z ∧ nuP R' π' z R2 ∧ R3 = xup R2 (400 + k) y (1 + z)) := fun R3 q => by
    unfold dNx at q
    rw [h10, e10, hem, hs2, (hst k hk.1 hk.2).2] at q
    exact q.imp id (fun w => ⟨Classical.not_not.mp w.1, w.2⟩)
  have hne : (∃ r p t, gCl G (gGd G (a.2.1 k) y) r p t) → ∃ r p t, gGd G (a.2.1 k) y r p t := fun q => Classical.byContradiction (fun w => by
    obtain ⟨r, p, t, h⟩ := q
    exact gCl_em (fun r p t z => w ⟨r, p, t, z⟩) r p t h)
  -- the store of the lead leaves the states
  have hkeep : ∀ (R2 R3 : xR) (v : Int), R3 = xup R2 (400 + k) y v → (∀ i, 0 ≤ i → i ≤ a.1 → R2 (π' i + 1) = R' (π' i + 1)) → ∀ i, 0 ≤ i → i ≤ a.1 → R3 (π' i + 1) = R' (π' i + 1) := fun R2 R3 v h3 h2 i i0 i1 => by
    rw [← h2 i i0 i1]
    funext b
    exact xr_o h3 (by have := hπl i i0 i1; omega)
  by_cases y6 : y = 6
  · refine ⟨fun R3 q => ?_, fun q => ?_⟩
    · rcases hN R3 q with ⟨q1, q2⟩ | ⟨q1, -⟩
      · refine ⟨a, c, hr, by rw [hc, y6]; rfl, h40, Int.le_refl _, by omega, ?_, fun i i0 i1 => ?_, fun i x i0 x0 x1 h => ?_⟩
        · rw [xr_o q2 (by omega), h10, e10]
        · have hk2 := hkeep R' R3 0 q2 (fun _ _ _ => rfl) i i0 (by omega)
          rw [dIt_eq hk2]
          exact ⟨dSt_eq hk2 (hst' i i0 i1).1, (hst' i i0 i1).2⟩
        · by_cases e : i = k ∧ x = y
          · rw [e.1, e.2, xr_s q2]
            unfold dld
            rw [if_pos y6]
          · by_cases e2 : i = k
            · rw [e2, xr_d q2 (by omega), ← e2]
              exact hld' i x i0 x0 x1 (by omega)
            · rw [xr_o q2 (by omega)]
              exact hld' i x i0 x0 x1 (by omega)
      · obtain ⟨r, p, t, h⟩ := hne q1
        rw [y6] at h
        exact absurd h (gGd_6 r p t)
    · obtain ⟨r, p, t, h⟩ := hne (Classical.not_not.mp q)
      rw [y6] at h
      exact absurd h (gGd_6 r p t)
  · have hdy : dy (ix y) = y := by unfold dy ix; by_cases q : y < 6; (rw [if_pos q, if_pos q]); (rw [if_neg q, if_neg (by omega)]; omega)
    have hix : 0 ≤ ix y ∧ ix y < 12 := by unfold ix; split <;> omega
    have hcx : (c : Int) = 12 * k + ix y := by rw [hc]; unfold cM ix; split <;> split <;> omega
    have hc1 : ((c + 1 : Nat) : Int) = cM k (y + 1) := by
      rw [Int.natCast_add, hcx]; unfold cM ix; split <;> split <;> omega
    have ec1 : (c : Int) / 12 = k := by omega
    have ec2 : (c : Int) % 12 = ix y := by omega
    have eg : gGd G (a.2.1 k) y = gGo G (a.2.1 k) (ix y) := by
      rw [← gGd_dy, hdy]
    rw [eg] at hN hne
    rw [eg]
    have hne2 : (∃ r p t, gGo G (a.2.1 k) (ix y) r p t) → ∃ r p t, gCl G (gGo G (a.2.1 k) (ix y)) r p t := fun ⟨r, p, t, h⟩ => ⟨r, p, t, gCl.sub h⟩
    have hal : ∀ i, 0 ≤ i → i < a.1 → (alB R' (π' i) (π' a.1) ↔ a.2.1 i = gCl G (gGo G (a.2.1 k) (ix y))) := fun i i0 i1 => by
      rw [alB_iff hu (hst' i i0 i1).1 hs1, (hst' i i0 i1).2, hs2, (hst k hk.1 hk.2).2, eg]
    -- the leads
    have hlds : ∀ (R2 R3 : xR) (v : Int) (N : Int) (s : Int → xIt), R3 = xup R2 (400 + k) y (1 + v) → (∀ i, 0 ≤ i → i < 40 → R2 (400 + i) = R' (400 + i)) → ∀ i x, 0 ≤ i → 0 ≤ x → x < 13 → (i < k ∨ (i = k ∧ x < y + 1)) → R3 (400 + i) x = dld (N, s, up1 a.2.2 c v) i x := fun R2 R3 v N s h3 h2 i x i0 x0 x1 h => by
      rw [hcx]
      by_cases e : i = k ∧ x = y
      · rw [e.1, e.2, xr_s h3]
        unfold dld
        rw [if_neg y6]
        show 1 + v = 1 + up1 a.2.2 (12 * k + ix y) v (12 * k + ix y)
        rw [up1_s]
      · rw [dld_up y6 hk.1 i0 ⟨x0, x1⟩ ⟨hy.1, by omega⟩ (by omega), ← hld' i x i0 x0 x1 (by omega), ← h2 i i0 (by omega)]
        by_cases e2 : i = k
        · rw [e2, xr_d h3 (by omega)]
        · rw [xr_o h3 (by omega)]
    refine ⟨fun R3 q => ?_, fun q q40 qa => ?_⟩
    · rcases hN R3 q with ⟨q1, q2⟩ | ⟨q1, z, R2, z0, nu, q2⟩
      · refine ⟨(a.1, a.2.1, up1 a.2.2 c (-1)), c + 1, ⟨a, hr, by omega, Or.inl ⟨by rw [ec1, ec2]; exact fun w => q1 (hne2 w), rfl⟩⟩, hc1, h40, Int.le_refl _, by show a.1 ≤ a.1 + 1; omega, ?_, fun i i0 i1 => ?_, hlds R' R3 (-1) _ _ q2 (fun _ _ _ => rfl)⟩
        · rw [xr_o q2 (by omega), h10, e10]
        · have i1' : i < a.1 := i1
          have hk2 := hkeep R' R3 0 q2 (fun _ _ _ => rfl) i i0 (by omega)
          rw [dIt_eq hk2]
          exact ⟨dSt_eq hk2 (hst' i i0 i1').1, (hst' i i0 i1').2⟩
      · unfold nuP at nu
        rw [h10, e10] at nu
        rcases nu with ⟨-, n2, -⟩ | ⟨n1, n2, n3, -⟩ | ⟨n1, n2, n3, n4⟩
        · omega
        · refine ⟨(a.1, a.2.1, up1 a.2.2 c z), c + 1, ⟨a, hr, by omega, Or.inr (Or.inl ⟨by rw [ec1, ec2]; exact hne q1, z, n1.1, n1.2, by rw [ec1, ec2]; exact (hal z n1.1 n1.2).mp n3, rfl⟩)⟩, hc1, h40, Int.le_refl _, by show a.1 ≤ a.1 + 1; omega, ?_, fun i i0 i1 => ?_, hlds R2 R3 z _ _ q2 (fun _ _ _ => by rw [n2])⟩
          · rw [xr_o q2 (by omega), n2, h10, e10]
          · have i1' : i < a.1 := i1
            have hk2 := hkeep R2 R3 _ q2 (fun _ _ _ => by rw [n2]) i i0 (by omega)
            rw [dIt_eq hk2]
            exact ⟨dSt_eq hk2 (hst' i i0 i1').1, (hst' i i0 i1').2⟩
        · have hR2 : ∀ b, b ≠ 1 → R2 b = R' b := fun b hb => by funext j; exact xr_o n3 hb
          refine ⟨(a.1 + 1, up1 a.2.1 a.1 (gCl G (gGo G (a.2.1 k) (ix y))), up1 a.2.2 c a.1), c + 1, ⟨a, hr, by omega, Or.inr (Or.inr ⟨by rw [ec1, ec2]; exact hne q1, fun i i0 i1 => by rw [ec1, ec2]; exact fun w => n4 i i0 i1 ((hal i i0 i1).mpr w), by rw [ec1, ec2]⟩)⟩, hc1, by show a.1 + 1 ≤ 40; omega, by show a.1 ≤ a.1 + 1; omega, Int.le_refl _, ?_, fun i i0 i1 => ?_, hlds R2 R3 a.1 _ _ (by rw [q2, n2]) (fun i _ _ => hR2 _ (by omega))⟩
          · rw [xr_o q2 (by omega), xr_s n3]
          · have i1' : i < a.1 + 1 := i1
            have hk2 := hkeep R2 R3 _ q2 (fun i i0 i1 => hR2 _ (by have := hπl i i0 i1; omega)) i i0 (by omega)
            rw [dIt_eq hk2]
            show dSt R3 m (π' i) ∧ dIt R' u m (π' i) = up1 a.2.1 a.1 (gCl G (gGo G (a.2.1 k) (ix y))) i
            by_cases e : i = a.1
            · rw [e, up1_s]
              rw [e] at hk2
              exact ⟨dSt_eq hk2 hs1, by rw [hs2, (hst k hk.1 hk.2).2, eg]⟩
            · rw [up1_n _ _ e]
              exact ⟨dSt_eq hk2 (hst' i i0 (by omega)).1, (hst' i i0 (by omega)).2⟩
    · have q1 := hne (Classical.not_not.mp q)
      refine ⟨(a.1 + 1, up1 a.2.1 a.1 (gCl G (gGo G (a.2.1 k) (ix y))), up1 a.2.2 c a.1), ⟨c + 1, ⟨a, hr, by omega, Or.inr (Or.inr ⟨by rw [ec1, ec2]; exact q1, fun i i0 i1 => by rw [ec1, ec2]; exact fun w => qa i i0 (by omega) ((hal i i0 i1).mpr w), by rw [ec1, ec2]⟩)⟩, Or.inr (by show 40 < a.1 + 1; omega)⟩, by show 40 < a.1 + 1; omega⟩
theorem dAu.row {R : xR} {u π : Int → Int} {m k y : Int} {a : auT} (h : dAu R u m π a k y) (hy : 13 ≤ y) : dAu R u m π a (k + 1) 0 := ⟨h.1, h.2.1, fun i x i0 x0 x1 q => h.2.2 i x i0 x0 x1 (by omega)⟩
