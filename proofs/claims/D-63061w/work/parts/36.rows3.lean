/-! rows: a region is seen as made; new cells with their shape named -/
theorem xH.made {D : va_G} {dA : FieldType → ClassId} {N0 : Nat} {σ : xS} {R : xR} {H : Heap} (hH : xH D dA N0 σ R H) {k : Int} {a t t' n : Nat} (h9 : k < 90 ∨ 99 < k) (hs : σ k = (a, t, n)) (h0 : t ≠ 0) (h1 : t' ≠ 0)
    (hat : xAt D dA σ R k H → xAt D dA (xsu σ k (a, t', n)) R k H) (hg : ∀ j, j < xns t' n → ∀ c, xtg k (xkd t' j) = some c → (σ c).2.1 ≠ 0) : xH D dA N0 (xsu σ k (a, t', n)) R H := by
  have hA : ∀ c, (xsu σ k (a, t', n) c).1 = (σ c).1 := by
    intro c
    by_cases e : c = k
    · rw [e, xsu_self, hs]
    · rw [xsu_ne _ _ e]
  have hT : ∀ c, (σ c).2.1 ≠ 0 ↔ (xsu σ k (a, t', n) c).2.1 ≠ 0 := by
    intro c
    by_cases e : c = k
    · rw [e, xsu_self, hs]
      exact ⟨fun _ => h1, fun _ => h0⟩
    · rw [xsu_ne _ _ e]
  refine ⟨fun c hc => ?_, fun i j hi hj hij => ?_, fun c c1 c2 => by rw [xsu_ne _ _ (by omega)]; exact hH.2.2 c c1 c2⟩
  · have hc' := (hT c).mpr hc
    obtain ⟨g1, g2, g3⟩ := hH.1 c hc'
    refine ⟨by rw [hA]; exact g1, ?_, ?_⟩
    · by_cases e : c = k
      · subst e; exact hat g2
      · exact g2.kept (xsu_ne _ _ e) rfl (fun j _ c2 _ => hA c2) rfl
    · intro j hj c2 hc2
      rw [← hT]
      by_cases e : c = k
      · subst e
        rw [xsu_self] at hj hc2
        exact hg j hj c2 hc2
      · rw [xsu_ne _ _ e] at hj hc2
        exact g3 j hj c2 hc2
  · rw [hA, hA] at hij
    exact hH.2.1 i j ((hT i).mpr hi) ((hT j).mpr hj) hij
section XMADE
variable {X : xCtx} {M : xM} {B : xB} {σ : xS} {R : xR} {cn sn pc : Nat} {L : List (Option Value)} {st stk : List Value}
theorem xVsu {σ : xS} {k : Int} {a t t' n : Nat} (hs : σ k = (a, t, n)) (c : Int) (kd : Nat) (z : Int) : xV (xsu σ k (a, t', n)) c kd z = xV σ c kd z := by
  have hA : ∀ c, (xsu σ k (a, t', n) c).1 = (σ c).1 := by
    intro c
    by_cases e : c = k
    · rw [e, xsu_self, hs]
    · rw [xsu_ne _ _ e]
  match kd with
  | 0 => rfl
  | 1 => rfl
  | 2 => rfl
  | 3 => exact congrArg Value.ref (hA _)
  | m + 4 => exact congrArg Value.ref (hA _)
/-- an object is seen as made -/
theorem V.made (k : Int) (t' : Nat) {a t n N : Nat} {C : String} {T : u_T} (h9 : k < 90 ∨ 99 < k) (hs : σ k = (a, t, n)) (h0 : t ≠ 0 ∧ t < 32) (h1 : t' ≠ 0 ∧ t' < 32 ∧ (t' - 1) % 16 = (t - 1) % 16) (hc : xcl[(t - 1) % 16]? = some (C, T, N))
    (hv : ∀ j, j < N → xV σ k (xkd t j) (R k (j : Int)) = xV σ k (xkd t' j) (R k (j : Int))) (hg : ∀ j, j < N → ∀ c, xtg k (xkd t' j) = some c → (σ c).2.1 ≠ 0) (kk : V X M B (xsu σ k (a, t', n)) R cn sn pc L st) : V X M B σ R cn sn pc L st := by
  obtain ⟨p, l, e, Rm, s, m, args, below, meth, c, N0, D, dA⟩ := X
  intro ok H locs ls hH hF hl
  refine kk ok H locs ls (hH.made h9 hs h0.1 h1.1 (fun h => ?_) (fun j hj => hg j ?_)) hF hl
  · unfold xAt at h ⊢
    rw [hs, if_pos h0.2] at h
    rw [xsu_self, if_pos h1.2.1]
    dsimp only
    rw [h1.2.2]
    obtain ⟨r, h2, h3⟩ := h
    rw [hc] at h2
    have h2 := (Option.some.inj h2).symm
    subst h2
    refine ⟨_, hc, h3.to (fun j hj => ?_)⟩
    rw [xVsu hs]
    exact hv j hj
  · unfold xns at hj
    rw [if_pos h1.2.1, h1.2.2, hc] at hj
    exact hj
/-- an array of references is seen as made -/
theorem V.madeA (k : Int) (t' : Nat) {a t n : Nat} (h9 : k < 90 ∨ 99 < k) (hs : σ k = (a, t, n)) (h0 : ¬ t < 32) (h1 : ¬ t' < 32 ∧ xel t' = xel t)
    (hv : ∀ j, j < n → xV σ k (xkd t j) (R k (j : Int)) = xV σ k (xkd t' j) (R k (j : Int))) (hg : ∀ j, j < n → ∀ c, xtg k (xkd t' j) = some c → (σ c).2.1 ≠ 0) (kk : V X M B (xsu σ k (a, t', n)) R cn sn pc L st) : V X M B σ R cn sn pc L st := by
  obtain ⟨p, l, e, Rm, s, m, args, below, meth, c, N0, D, dA⟩ := X
  intro ok H locs ls hH hF hl
  refine kk ok H locs ls (hH.made h9 hs (by omega) (by omega) (fun h => ?_) (fun j hj => hg j ?_)) hF hl
  · unfold xAt at h ⊢
    rw [hs, if_neg h0] at h
    rw [xsu_self, if_neg h1.1]
    dsimp only at h ⊢
    rw [h, h1.2]
    congr 1
    unfold arrV
    congr 2
    funext j
    show xV σ k (xkd t j.val) (R k (j.val : Int)) = xV (xsu σ k (a, t', n)) k (xkd t' j.val) (R k (j.val : Int))
    rw [xVsu hs]
    exact hv j.val j.isLt
  · unfold xns at hj
    rw [if_neg h1.1] at hj
    exact hj
/-- a region is let go -/
theorem V.drop (k : Int) (h9 : k < 90 ∨ 99 < k) (hk : ∀ c j, c ≠ k → (σ c).2.1 ≠ 0 → j < xns (σ c).2.1 (σ c).2.2 → xtg c (xkd (σ c).2.1 j) ≠ some k) (kk : V X M B (xsu σ k (0, 0, 0)) R cn sn pc L st) : V X M B σ R cn sn pc L st := by
  obtain ⟨p, l, e, Rm, s, m, args, below, meth, c, N0, D, dA⟩ := X
  intro ok H locs ls hH hF hl
  refine kk ok H locs ls ⟨fun c hc => ?_, fun i j hi hj hij => ?_, fun c c1 c2 => by rw [xsu_ne _ _ (by omega)]; exact hH.2.2 c c1 c2⟩ hF hl
  · have hck : c ≠ k := fun e => by rw [e, xsu_self] at hc; exact hc rfl
    rw [xsu_ne _ _ hck] at hc ⊢
    obtain ⟨g1, g2, g3⟩ := hH.1 c hc
    refine ⟨g1, g2.kept (xsu_ne _ _ hck) rfl (fun j hj c2 hc2 => ?_) rfl, fun j hj c2 hc2 => ?_⟩
    · rw [xsu_ne _ _ (fun e => hk c j hck hc hj (by rw [hc2, e]))]
    · rw [xsu_ne _ _ (fun e => hk c j hck hc hj (by rw [hc2, e]))]
      exact g3 j hj c2 hc2
  · have hik : i ≠ k := fun e => by rw [e, xsu_self] at hi; exact hi rfl
    have hjk : j ≠ k := fun e => by rw [e, xsu_self] at hj; exact hj rfl
    rw [xsu_ne _ _ hik] at hi hij
    rw [xsu_ne _ _ hjk] at hj hij
    exact hH.2.1 i j hi hj hij
end XMADE
