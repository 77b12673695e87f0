/-! pure rows: search -/
def mFr (R R1 : xR) : Prop := ∀ p q, p ≠ 49 → p ≠ 50 → p ≠ 55 → p ≠ 56 → p ≠ 57 → ¬ (p = 30 ∧ (q = 22 ∨ q = 27 ∨ q = 28)) → R1 p q = R p q
theorem mFr.env {R R1 : xR} (h : mFr R R1) : mEnv R1 = mEnv R := by
  unfold mEnv
  have e1 : R1 30 15 = R 30 15 := h _ _ (by decide) (by decide) (by decide) (by decide) (by decide) (by decide)
  have e2 : R1 30 16 = R 30 16 := h _ _ (by decide) (by decide) (by decide) (by decide) (by decide) (by decide)
  have e3 : R1 48 = R 48 := funext fun b => h 48 b (by decide) (by decide) (by decide) (by decide) (by decide) (by omega)
  have e4 : R1 51 = R 51 := funext fun b => h 51 b (by decide) (by decide) (by decide) (by decide) (by decide) (by omega)
  have e5 : R1 52 = R 52 := funext fun b => h 52 b (by decide) (by decide) (by decide) (by decide) (by decide) (by omega)
  rw [e1, e2, e3, e4, e5]
theorem mFr.gm {R R1 : xR} (h : mFr R R1) : gM R1 = gM R := by
  unfold gM
  have e1 : R1 30 3 = R 30 3 := h _ _ (by decide) (by decide) (by decide) (by decide) (by decide) (by decide)
  have e3 : R1 35 = R 35 := funext fun b => h 35 b (by decide) (by decide) (by decide) (by decide) (by decide) (by omega)
  have e4 : R1 36 = R 36 := funext fun b => h 36 b (by decide) (by decide) (by decide) (by decide) (by decide) (by omega)
  have e5 : R1 37 = R 37 := funext fun b => h 37 b (by decide) (by decide) (by decide) (by decide) (by decide) (by omega)
  rw [e1, e3, e4, e5]
theorem mFr.co {R R1 : xR} {a : auT} (h : mFr R R1) (hc : mCo R a) : mCo R1 a := hc.keep (h _ _ (by decide) (by decide) (by decide) (by decide) (by decide) (by decide)) (h _ _ (by decide) (by decide) (by decide) (by decide) (by decide) (by decide)) (fun p q hp => h p q (by omega) (by omega) (by omega) (by omega) (by omega) (by omega))
theorem mFr.s7 {R R1 : xR} (h : mFr R R1) (h7 : ∀ i, 0 ≤ i → i < 2310 → s7 (R 44 i)) : ∀ i, 0 ≤ i → i < 2310 → s7 (R1 44 i) := fun i a b => by rw [h 44 i (by decide) (by decide) (by decide) (by decide) (by decide) (by omega)]; exact h7 i a b
theorem mFr.refl {R : xR} : mFr R R := fun _ _ _ _ _ _ _ _ => rfl
theorem mFr.trans {R R1 R2 : xR} (h : mFr R R1) (h2 : mFr R1 R2) : mFr R R2 := fun p q a b c d e f => (h2 p q a b c d e f).trans (h p q a b c d e f)
def rowOk (e : xEn) : List Int → Prop
  | [] => True
  | c :: s => (-1 ≤ c ∧ c ≤ 7) ∧ stOk s ∧ ndV e s ∧ s.length ≤ 6
/-- search on its way: the row st stands, dn is found -/
def mSr (R : xR) (a : auT) (cost guard : Int) (R1 : xR) (st : List Int) (dn : List (List Int × Int)) : Prop := mFr R R1 ∧ mRow R1 st ∧ mFd R1 dn ∧ dn ++ rem_ (gM R) a (mEnv R) cost guard st = srA (gM R) a (mEnv R) cost guard ∧ rowOk (mEnv R) st
theorem stOk_cons {c : Int} {s : List Int} (h : 0 ≤ c ∧ c ≤ 7) (hs : stOk s) : stOk (c :: s) := fun x hx => by
  rcases List.mem_cons.mp hx with e | e
  · rw [e]; exact h
  · exact hs x e
theorem mSr.pop {R R1 R2 : xR} {a : auT} {cost guard c v : Int} {s : List Int} {dn : List (List Int × Int)} (h : mSr R a cost guard R1 (c :: s) dn) (hc : 7 ≤ c) (e : R2 = xup R1 57 (s.length : Int) v) : mSr R a cost guard R2 s dn := by
  obtain ⟨h1, h2, h3, h4, h5⟩ := h
  refine ⟨fun p q a b c d f g => (xr_o e f).trans (h1 p q a b c d f g), h2.2.kept (fun i a b => xr_d e (by omega)), h3.kept (xr_o e (by decide)) (fun p q hp => xr_o e (by omega)), by rw [rem_pop hc] at h4; exact h4, ?_⟩
  obtain ⟨k1, k2, k3, k4⟩ := h5
  cases s with
  | nil => trivial
  | cons c2 s2 =>
    have := k2 c2 List.mem_cons_self
    exact ⟨⟨by omega, this.2⟩, fun x hx => k2 x (List.mem_cons_of_mem _ hx), k3.1, by rw [List.length_cons] at k4; omega⟩
theorem mSr.same {R R1 R3 : xR} {a : auT} {cost guard c : Int} {s : List Int} {dn : List (List Int × Int)} (h : mSr R a cost guard R1 (c :: s) dn) (hc : c < 7) (h1 : mFr R R3) (h2 : mRow R3 ((c + 1) :: s)) (h3 : mFd R3 dn) (hs : sr (gM R) a (mEnv R) cost guard (7 - s.length) s (c + 1) = []) : mSr R a cost guard R3 ((c + 1) :: s) dn := by
  obtain ⟨j1, j2, j3, j4, j5⟩ := h
  have j6 := j5.1
  refine ⟨h1, h2, h3, ?_, ⟨by omega, by omega⟩, j5.2⟩
  rw [rem_next hc, hs] at j4
  exact j4
theorem mSr.no {R R1 R3 : xR} {a : auT} {cost guard c : Int} {s : List Int} {dn : List (List Int × Int)} (h : mSr R a cost guard R1 (c :: s) dn) (hc : c < 7) (h1 : mFr R R3) (h2 : mRow R3 ((c + 1) :: s)) (h3 : mFd R3 dn) (hk : ¬ ndK (gM R) a (mEnv R) cost s (c + 1)) : mSr R a cost guard R3 ((c + 1) :: s) dn := by
  have h6 := h.2.2.2.2.2.2.2
  refine h.same hc h1 h2 h3 ?_
  rw [show 7 - s.length = (6 - s.length) + 1 by omega]
  exact sr_no hk
theorem mSr.sev {R R1 R3 : xR} {a : auT} {cost guard c : Int} {s : List Int} {dn : List (List Int × Int)} (h : mSr R a cost guard R1 (c :: s) dn) (hc : c < 7) (h1 : mFr R R3) (h2 : mRow R3 ((c + 1) :: s)) (h3 : mFd R3 dn) (hk : ndK (gM R) a (mEnv R) cost s (c + 1)) (hs : (ndP (mEnv R) ((c + 1) :: s)).2.2.1 = cost) (h7 : c + 1 = 7) : mSr R a cost guard R3 ((c + 1) :: s) dn := by
  have h6 := h.2.2.2.2.2.2.2
  refine h.same hc h1 h2 h3 ?_
  rw [show 7 - s.length = (6 - s.length) + 1 by omega, sr_end hk hs, if_pos h7]
theorem mSr.noted {R R1 R3 : xR} {a : auT} {cost guard c : Int} {s : List Int} {dn : List (List Int × Int)} (h : mSr R a cost guard R1 (c :: s) dn) (hc : c < 7) (h1 : mFr R R3) (h2 : mRow R3 ((c + 1) :: s)) (hk : ndK (gM R) a (mEnv R) cost s (c + 1)) (hs : (ndP (mEnv R) ((c + 1) :: s)).2.2.1 = cost) (h7 : c + 1 ≠ 7) (h3 : mFd R3 (dn ++ jd (gM R) a (mEnv R) guard ((c + 1) :: s))) : mSr R a cost guard R3 ((c + 1) :: s) (dn ++ jd (gM R) a (mEnv R) guard ((c + 1) :: s)) := by
  have h6 := h.2.2.2.2.2.2.2
  obtain ⟨j1, j2, j3, j4, j5⟩ := h
  have j6 := j5.1
  refine ⟨h1, h2, h3, ?_, ⟨by omega, by omega⟩, j5.2⟩
  rw [rem_next hc, show 7 - s.length = (6 - s.length) + 1 by omega, sr_end hk hs, if_neg h7, ← List.append_assoc] at j4
  exact j4
theorem mSr.push {R R1 R3 R4 : xR} {a : auT} {cost guard c : Int} {s : List Int} {dn : List (List Int × Int)} (h : mSr R a cost guard R1 (c :: s) dn) (hc : -1 ≤ c ∧ c < 7) (h1 : mFr R R3) (h2 : mRow R3 ((c + 1) :: s)) (h3 : mFd R3 dn) (hk : ndK (gM R) a (mEnv R) cost s (c + 1)) (hs : (ndP (mEnv R) ((c + 1) :: s)).2.2.1 ≠ cost) (hl : s.length + 1 ≤ 6) (e : R4 = xup R3 57 ((s.length : Int) + 1) (-1)) : mSr R a cost guard R4 (-1 :: (c + 1) :: s) dn := by
  obtain ⟨j1, j2, j3, j4, j5⟩ := h
  refine ⟨fun p q a b c d f g => (xr_o e f).trans (h1 p q a b c d f g), ⟨?_, h2.kept (fun i a b => xr_d e (by rw [List.length_cons] at b; omega))⟩, h3.kept (xr_o e (by decide)) (fun p q hp => xr_o e (by omega)), ?_, ⟨by omega, by omega⟩, stOk_cons (by omega) j5.2.1, ⟨j5.2.2.1, hk.1⟩, by rw [List.length_cons]; omega⟩
  · rw [show (((c + 1) :: s).length : Int) = (s.length : Int) + 1 by rw [List.length_cons]; omega]; exact xr_s e
  · rw [rem_next hc.2, show 7 - s.length = (6 - s.length) + 1 by omega, sr_go hk hs] at j4
    rw [rem_down, show 7 - ((c + 1) :: s).length = 6 - s.length by rw [List.length_cons]; omega]
    exact j4
theorem mSr.len {R R1 : xR} {a : auT} {cost guard : Int} {st : List Int} {dn : List (List Int × Int)} (h : mSr R a cost guard R1 st dn) : dn.length ≤ 16777216 := by
  have := srA_len (g := gM R) (a := a) (e := mEnv R) (cost := cost) (guard := guard)
  rw [← h.2.2.2.1, List.length_append] at this
  omega
theorem mSr.fin {R R1 : xR} {a : auT} {cost guard : Int} {dn : List (List Int × Int)} (h : mSr R a cost guard R1 [] dn) : mFr R R1 ∧ mFd R1 (srA (gM R) a (mEnv R) cost guard) := by
  refine ⟨h.1, ?_⟩
  have := h.2.2.2.1
  rw [show rem_ (gM R) a (mEnv R) cost guard [] = [] from rfl, List.append_nil] at this
  rw [← this]
  exact h.2.2.1
theorem mFw.fr {R R0 R1 : xR} {st : List Int} {z : Int} (h : mFw R0 R1 st z) (h0 : mFr R R0) : mFr R R1 := fun p q a b c d e f => (h.1 p q a (by omega)).trans (h0 p q a b c d e f)
theorem ndK_len {g : xGr} {a : auT} {e : xEn} (he : enOk e) {cost c : Int} {s : List Int} (h : ndK g a e cost s c) (hc : 0 ≤ c ∧ c ≤ 7) (hv : ndV e s) (hs : stOk s) (h3 : cost ≤ 3) : s.length + 1 ≤ 6 := by
  have hr := ndV.rng he (stOk_cons hc hs) (show ndV e (c :: s) from ⟨hv, h.1⟩)
  have h1 := h.2.1
  have h2 := h.2.2.1
  have el : ((c :: s).length : Int) = s.length + 1 := by rw [List.length_cons]; omega
  rw [el] at hr
  omega
theorem rowOk_len {e : xEn} {st : List Int} (h : rowOk e st) : st.length ≤ 7 := by
  cases st with
  | nil => exact Nat.zero_le _
  | cons c s => rw [List.length_cons]; have := h.2.2.2; omega
theorem mFw.yes {R0 R1 : xR} {e : xEn} {st : List Int} {z : Int} (h : mFw R0 R1 st z) (ee : mEnv R0 = e) (hz : 0 ≤ z) : ndV e st ∧ (ndP e st).2.2.2.1 ≤ 3 ∧ z = (ndP e st).2.2.1 ∧ R1 30 27 = (ndP e st).1 ∧ R1 30 28 = (ndP e st).2.1 ∧ ∀ j, 0 ≤ j → j < (ndP e st).1 → R1 49 j = (ndP e st).2.2.2.2 j := by
  rw [← ee]
  exact h.2.resolve_right (fun q => by have := q.2; omega)
theorem mFw.nay {R0 R1 : xR} {e : xEn} {st : List Int} {z : Int} (h : mFw R0 R1 st z) (ee : mEnv R0 = e) (he : enOk e) (hs : stOk st) (hz : z < 0) : ¬ (ndV e st ∧ (ndP e st).2.2.2.1 ≤ 3) := by
  subst ee
  rcases h.2 with q | q
  · have := (ndV.rng he hs q.1).2.2.2.1.1
    have := q.2.2.1
    omega
  · exact q.1
theorem mFw.rng {R0 R1 : xR} {e : xEn} {st : List Int} {z : Int} (h : mFw R0 R1 st z) (ee : mEnv R0 = e) (he : enOk e) (hs : stOk st) : -1 ≤ z ∧ z ≤ 3 * st.length := by
  subst ee
  rcases h.2 with q | q
  · have := (ndV.rng he hs q.1).2.2.2.1
    have := q.2.2.1
    omega
  · have := q.2; omega
