/-! pure rows: repairs. A row of steps (the last first): 0..5 put a letter, 6 take one out, 7 pass one -/
/-- letters, the text, what putting costs, what taking costs, where it goes wrong -/
abbrev xEn : Type := Int × (Int → Int) × (Int → Int) × (Int → Int) × Int
/-- size, rest, sum, passes, the text -/
abbrev xNd : Type := Int × Int × Int × Int × (Int → Int)
def ndS (e : xEn) (ν : xNd) (c : Int) : xNd := if c < 6 then (ν.1 + 1, ν.2.1, ν.2.2.1 + e.2.2.1 c, ν.2.2.2.1, up1 ν.2.2.2.2 ν.1 c) else if c = 6 then (ν.1, ν.2.1 + 1, ν.2.2.1 + e.2.2.2.1 (e.2.1 ν.2.1), ν.2.2.2.1, ν.2.2.2.2) else (ν.1 + 1, ν.2.1 + 1, ν.2.2.1, ν.2.2.2.1 + 1, up1 ν.2.2.2.2 ν.1 (e.2.1 ν.2.1))
def ndP (e : xEn) : List Int → xNd
  | [] => (e.2.2.2.2, e.2.2.2.2, 0, 0, e.2.1)
  | c :: st => ndS e (ndP e st) c
/-- the step c may follow -/
def ndO (e : xEn) (st : List Int) (c : Int) : Prop := ¬ (6 ≤ c ∧ e.1 ≤ (ndP e st).2.1) ∧ ¬ (c < 6 ∧ ∃ st', st = 6 :: st')
def ndV (e : xEn) : List Int → Prop
  | [] => True
  | c :: st => ndV e st ∧ ndO e st c
/-- letters and costs in range -/
def enOk (e : xEn) : Prop := (0 ≤ e.1 ∧ e.1 ≤ 16) ∧ (∀ k, 0 ≤ k → k < e.1 → 0 ≤ e.2.1 k ∧ e.2.1 k < 6) ∧ (∀ x, 0 ≤ x → x < 6 → 1 ≤ e.2.2.1 x ∧ e.2.2.1 x ≤ 3) ∧ (∀ x, 0 ≤ x → x < 6 → 1 ≤ e.2.2.2.1 x ∧ e.2.2.2.1 x ≤ 3) ∧ (0 ≤ e.2.2.2.2 ∧ e.2.2.2.2 ≤ e.1)
def stOk (st : List Int) : Prop := ∀ c ∈ st, 0 ≤ c ∧ c ≤ 7
theorem ndV.rng {e : xEn} (he : enOk e) : ∀ {st : List Int}, stOk st → ndV e st → (0 ≤ (ndP e st).1) ∧ (ndP e st).1 ≤ (ndP e st).2.1 + (ndP e st).2.2.1 ∧ (0 ≤ (ndP e st).2.1 ∧ (ndP e st).2.1 ≤ e.1) ∧ (0 ≤ (ndP e st).2.2.1 ∧ (ndP e st).2.2.1 ≤ 3 * st.length) ∧ (0 ≤ (ndP e st).2.2.2.1 ∧ (st.length : Int) ≤ (ndP e st).2.2.1 + (ndP e st).2.2.2.1) ∧ (ndP e st).1 ≤ e.2.2.2.2 + st.length ∧ e.2.2.2.2 ≤ (ndP e st).1 ∧ e.2.2.2.2 ≤ (ndP e st).2.1 ∧ (∀ k, 0 ≤ k → k < (ndP e st).1 → 0 ≤ (ndP e st).2.2.2.2 k ∧ (ndP e st).2.2.2.2 k < 6) := by
  obtain ⟨e1, e2, e3, e4, e5⟩ := he
  intro st
  induction st with
  | nil =>
    intro _ _
    exact ⟨by show 0 ≤ e.2.2.2.2; omega, by show e.2.2.2.2 ≤ e.2.2.2.2 + 0; omega, e5, ⟨by show (0 : Int) ≤ 0; omega, by show (0 : Int) ≤ 3 * 0; omega⟩, ⟨by show (0 : Int) ≤ 0; omega, by show (0 : Int) ≤ 0 + 0; omega⟩, by show e.2.2.2.2 ≤ e.2.2.2.2 + 0; omega, by show e.2.2.2.2 ≤ e.2.2.2.2; omega, by show e.2.2.2.2 ≤ e.2.2.2.2; omega, fun k k1 k2 => e2 k k1 (by have : k < e.2.2.2.2 := k2; omega)⟩
  | cons c st ih =>
    intro hs hv
    have hc := hs c List.mem_cons_self
    obtain ⟨i1, i2, i3, i4, i5, i6, i7, i8, i9⟩ := ih (fun c h => hs c (List.mem_cons_of_mem _ h)) hv.1
    have ho := hv.2.1
    have el : ((c :: st).length : Int) = st.length + 1 := by simp
    rw [el]
    show (0 ≤ (ndS e (ndP e st) c).1) ∧ (ndS e (ndP e st) c).1 ≤ (ndS e (ndP e st) c).2.1 + (ndS e (ndP e st) c).2.2.1 ∧ (0 ≤ (ndS e (ndP e st) c).2.1 ∧ (ndS e (ndP e st) c).2.1 ≤ e.1) ∧ (0 ≤ (ndS e (ndP e st) c).2.2.1 ∧ (ndS e (ndP e st) c).2.2.1 ≤ 3 * (st.length + 1)) ∧ (0 ≤ (ndS e (ndP e st) c).2.2.2.1 ∧ (st.length : Int) + 1 ≤ (ndS e (ndP e st) c).2.2.1 + (ndS e (ndP e st) c).2.2.2.1) ∧ (ndS e (ndP e st) c).1 ≤ e.2.2.2.2 + (st.length + 1) ∧ e.2.2.2.2 ≤ (ndS e (ndP e st) c).1 ∧ e.2.2.2.2 ≤ (ndS e (ndP e st) c).2.1 ∧ (∀ k, 0 ≤ k → k < (ndS e (ndP e st) c).1 → 0 ≤ (ndS e (ndP e st) c).2.2.2.2 k ∧ (ndS e (ndP e st) c).2.2.2.2 k < 6)
    unfold ndS
    by_cases c6 : c < 6
    · have := e3 c hc.1 c6
      rw [if_pos c6]
      refine ⟨by dsimp only; omega, by dsimp only; omega, by dsimp only; omega, by dsimp only; omega, by dsimp only; omega, by dsimp only; omega, by dsimp only; omega, by dsimp only; omega, fun k k1 k2 => ?_⟩
      show 0 ≤ up1 (ndP e st).2.2.2.2 (ndP e st).1 c k ∧ up1 (ndP e st).2.2.2.2 (ndP e st).1 c k < 6
      by_cases ek : k = (ndP e st).1
      · rw [ek, up1_s]; omega
      · rw [up1_n _ _ ek]
        have k2' : k < (ndP e st).1 + 1 := k2
        exact i9 k k1 (by omega)
    · rw [if_neg c6]
      have hr : (ndP e st).2.1 < e.1 := by omega
      have hw := e2 _ i3.1 hr
      by_cases c7 : c = 6
      · have := e4 _ hw.1 hw.2
        rw [if_pos c7]
        exact ⟨by dsimp only; omega, by dsimp only; omega, by dsimp only; omega, by dsimp only; omega, by dsimp only; omega, by dsimp only; omega, by dsimp only; omega, by dsimp only; omega, i9⟩
      · rw [if_neg c7]
        refine ⟨by dsimp only; omega, by dsimp only; omega, by dsimp only; omega, by dsimp only; omega, by dsimp only; omega, by dsimp only; omega, by dsimp only; omega, by dsimp only; omega, fun k k1 k2 => ?_⟩
        show 0 ≤ up1 (ndP e st).2.2.2.2 (ndP e st).1 (e.2.1 (ndP e st).2.1) k ∧ up1 (ndP e st).2.2.2.2 (ndP e st).1 (e.2.1 (ndP e st).2.1) k < 6
        by_cases ek : k = (ndP e st).1
        · rw [ek, up1_s]; exact hw
        · rw [up1_n _ _ ek]
          have k2' : k < (ndP e st).1 + 1 := k2
          exact i9 k k1 (by omega)
/-- where a row of letters goes wrong, as a number -/
noncomputable def pz (g : xGr) (a : auT) (w : Int → Int) (n : Int) : Int := @dite Int (∃ z, pR g a w n z) (Classical.propDecidable _) (fun h => Classical.choose h) (fun _ => 0)
theorem pz_eq {g : xGr} (hw : gW g) {a : auT} (ho : auOk g a) (hc : auC g a) {w : Int → Int} {n z : Int} (hwd : ∀ k, 0 ≤ k → k < n → 0 ≤ w k ∧ w k < 6) (h : pR g a w n z) : pz g a w n = z := by
  have hx : ∃ z, pR g a w n z := ⟨z, h⟩
  unfold pz
  rw [@dif_pos _ (Classical.propDecidable _) hx]
  exact pR.fun hw ho hc hwd (Classical.choose_spec hx) h
theorem pz_ok {g : xGr} (hw : gW g) {a : auT} (ho : auOk g a) (hc : auC g a) {w : Int → Int} {n : Int} (hn : 0 ≤ n ∧ n ≤ 19) (hwd : ∀ k, 0 ≤ k → k < n → 0 ≤ w k ∧ w k < 6) : pR g a w n (pz g a w n) := by
  obtain ⟨m, z, h⟩ := PR.all hw ho hc hn hwd
  have h2 : pR g a w n z := ⟨m, h⟩
  rw [pz_eq hw ho hc hwd h2]
  exact h2
theorem pR.congr2 {g : xGr} {a : auT} {w w' : Int → Int} {n z : Int} (h : ∀ k, 0 ≤ k → k < n → w k = w' k) : pR g a w n z ↔ pR g a w' n z := ⟨pR.congr h, pR.congr (fun k k1 k2 => (h k k1 k2).symm)⟩
theorem pz_congr {g : xGr} {a : auT} {w w' : Int → Int} {n : Int} (h : ∀ k, 0 ≤ k → k < n → w k = w' k) : pz g a w n = pz g a w' n := by
  have e : (fun z => pR g a w n z) = (fun z => pR g a w' n z) := funext fun z => propext (pR.congr2 h)
  unfold pz
  have e2 : pR g a w n = pR g a w' n := e
  rw [e2]
/-- the new text goes on so far -/
def ndG (g : xGr) (a : auT) (e : xEn) (st : List Int) : Prop := pz g a (ndP e st).2.2.2.2 (ndP e st).1 < 0 ∨ (ndP e st).1 ≤ pz g a (ndP e st).2.2.2.2 (ndP e st).1
/-- the row with step c is one to go on with, or to keep -/
def ndK (g : xGr) (a : auT) (e : xEn) (cost : Int) (st : List Int) (c : Int) : Prop := ndO e st c ∧ (ndP e (c :: st)).2.2.2.1 ≤ 3 ∧ (ndP e (c :: st)).2.2.1 ≤ cost ∧ (c = 6 ∨ ndG g a e (c :: st))
/-- the whole new text: what stands, then the rest of the letters -/
def ndT (e : xEn) (st : List Int) : Int → Int := fun k => if k < (ndP e st).1 then (ndP e st).2.2.2.2 k else e.2.1 ((ndP e st).2.1 + (k - (ndP e st).1))
def ndN (e : xEn) (st : List Int) : Int := (ndP e st).1 + (e.1 - (ndP e st).2.1)
/-- what a whole row gives: kept with its reach, or nothing -/
noncomputable def jd (g : xGr) (a : auT) (e : xEn) (guard : Int) (st : List Int) : List (List Int × Int) :=
  @ite _ (0 ≤ pz g a (ndT e st) (ndN e st) ∧ pz g a (ndT e st) (ndN e st) < (ndP e st).1 + guard) (Classical.propDecidable _) [] [(st, if pz g a (ndT e st) (ndN e st) < 0 then e.1 - (ndP e st).2.1 else pz g a (ndT e st) (ndN e st) - (ndP e st).1)]
/-- what comes of step c behind the row st, f levels deep -/
noncomputable def sr (g : xGr) (a : auT) (e : xEn) (cost guard : Int) : Nat → List Int → Int → List (List Int × Int)
  | 0, _, _ => []
  | f + 1, st, c => @ite _ (ndK g a e cost st c) (Classical.propDecidable _)
      (if (ndP e (c :: st)).2.2.1 = cost then (if c = 7 then [] else jd g a e guard (c :: st))
       else sr g a e cost guard f (c :: st) 0 ++ (sr g a e cost guard f (c :: st) 1 ++ (sr g a e cost guard f (c :: st) 2 ++ (sr g a e cost guard f (c :: st) 3 ++ (sr g a e cost guard f (c :: st) 4 ++ (sr g a e cost guard f (c :: st) 5 ++ (sr g a e cost guard f (c :: st) 6 ++ sr g a e cost guard f (c :: st) 7))))))) []
/-- what comes of the steps from c on -/
noncomputable def srF (g : xGr) (a : auT) (e : xEn) (cost guard : Int) (f : Nat) (st : List Int) : Nat → Int → List (List Int × Int)
  | 0, _ => []
  | m + 1, c => sr g a e cost guard f st c ++ srF g a e cost guard f st m (c + 1)
theorem sr_no {g : xGr} {a : auT} {e : xEn} {cost guard : Int} {f : Nat} {st : List Int} {c : Int} (h : ¬ ndK g a e cost st c) : sr g a e cost guard (f + 1) st c = [] := by
  unfold sr
  exact @if_neg _ (Classical.propDecidable _) h _ _ _
theorem sr_end {g : xGr} {a : auT} {e : xEn} {cost guard : Int} {f : Nat} {st : List Int} {c : Int} (h : ndK g a e cost st c) (hs : (ndP e (c :: st)).2.2.1 = cost) : sr g a e cost guard (f + 1) st c = if c = 7 then [] else jd g a e guard (c :: st) := by
  unfold sr
  rw [@if_pos _ (Classical.propDecidable _) h, if_pos hs]
theorem sr_go {g : xGr} {a : auT} {e : xEn} {cost guard : Int} {f : Nat} {st : List Int} {c : Int} (h : ndK g a e cost st c) (hs : (ndP e (c :: st)).2.2.1 ≠ cost) : sr g a e cost guard (f + 1) st c = srF g a e cost guard f (c :: st) 8 0 := by
  unfold sr
  rw [@if_pos _ (Classical.propDecidable _) h, if_neg hs]
  simp only [srF, List.append_nil]
  rfl
theorem jd_yes {g : xGr} {a : auT} {e : xEn} {guard : Int} {st : List Int} (h : ¬ (0 ≤ pz g a (ndT e st) (ndN e st) ∧ pz g a (ndT e st) (ndN e st) < (ndP e st).1 + guard)) : jd g a e guard st = [(st, if pz g a (ndT e st) (ndN e st) < 0 then e.1 - (ndP e st).2.1 else pz g a (ndT e st) (ndN e st) - (ndP e st).1)] := by
  unfold jd
  exact @if_neg _ (Classical.propDecidable _) h _ _ _
theorem jd_no {g : xGr} {a : auT} {e : xEn} {guard : Int} {st : List Int} (h : 0 ≤ pz g a (ndT e st) (ndN e st) ∧ pz g a (ndT e st) (ndN e st) < (ndP e st).1 + guard) : jd g a e guard st = [] := by
  unfold jd
  exact @if_pos _ (Classical.propDecidable _) h _ _ _
/-- what is left to do behind a row (levels 7 - length) -/
noncomputable def rem_ (g : xGr) (a : auT) (e : xEn) (cost guard : Int) : List Int → List (List Int × Int)
  | [] => []
  | c :: st => srF g a e cost guard (7 - st.length) st (7 - c).toNat (c + 1) ++ rem_ g a e cost guard st
/-- all repairs of a cost -/
noncomputable def srA (g : xGr) (a : auT) (e : xEn) (cost guard : Int) : List (List Int × Int) := srF g a e cost guard 7 [] 8 0
theorem rem_start {g : xGr} {a : auT} {e : xEn} {cost guard : Int} : rem_ g a e cost guard [-1] = srA g a e cost guard := by
  show srF g a e cost guard 7 [] 8 0 ++ [] = _
  rw [List.append_nil]
  rfl
theorem rem_pop {g : xGr} {a : auT} {e : xEn} {cost guard c : Int} {st : List Int} (h : 7 ≤ c) : rem_ g a e cost guard (c :: st) = rem_ g a e cost guard st := by
  show srF g a e cost guard (7 - st.length) st (7 - c).toNat (c + 1) ++ _ = _
  rw [show (7 - c).toNat = 0 by omega]
  rfl
theorem rem_next {g : xGr} {a : auT} {e : xEn} {cost guard c : Int} {st : List Int} (h : c < 7) : rem_ g a e cost guard (c :: st) = sr g a e cost guard (7 - st.length) st (c + 1) ++ rem_ g a e cost guard ((c + 1) :: st) := by
  show srF g a e cost guard (7 - st.length) st (7 - c).toNat (c + 1) ++ _ = sr g a e cost guard (7 - st.length) st (c + 1) ++ (srF g a e cost guard (7 - st.length) st (7 - (c + 1)).toNat (c + 1 + 1) ++ _)
  rw [show (7 - c).toNat = (7 - (c + 1)).toNat + 1 by omega, ← List.append_assoc]
  rfl
theorem rem_down {g : xGr} {a : auT} {e : xEn} {cost guard : Int} {st : List Int} : rem_ g a e cost guard (-1 :: st) = srF g a e cost guard (7 - st.length) st 8 0 ++ rem_ g a e cost guard st := rfl
/-- how much is left: falls with every step -/
def rowM : List Int → Nat
  | [] => 0
  | c :: st => (8 - c).toNat * 10 ^ (7 - st.length) + rowM st
theorem jd_len {g : xGr} {a : auT} {e : xEn} {guard : Int} {st : List Int} : (jd g a e guard st).length ≤ 1 := by
  by_cases h : 0 ≤ pz g a (ndT e st) (ndN e st) ∧ pz g a (ndT e st) (ndN e st) < (ndP e st).1 + guard
  · rw [jd_no h]; exact Nat.zero_le _
  · rw [jd_yes h]; exact Nat.le_refl _
theorem sr_len {g : xGr} {a : auT} {e : xEn} {cost guard : Int} : ∀ (f : Nat) (st : List Int) (c : Int), (sr g a e cost guard f st c).length ≤ 8 ^ f := by
  intro f
  induction f with
  | zero => intro st c; exact Nat.zero_le _
  | succ f ih =>
    intro st c
    have hF : ∀ (m : Nat) (st : List Int) (c : Int), (srF g a e cost guard f st m c).length ≤ m * 8 ^ f := by
      intro m
      induction m with
      | zero => intro st c; exact Nat.zero_le _
      | succ m ihm =>
        intro st c
        show (sr g a e cost guard f st c ++ srF g a e cost guard f st m (c + 1)).length ≤ _
        rw [List.length_append, Nat.succ_mul]
        have := ih st c
        have := ihm st (c + 1)
        omega
    by_cases hk : ndK g a e cost st c
    · by_cases hs : (ndP e (c :: st)).2.2.1 = cost
      · rw [sr_end hk hs]
        have h1 : 1 ≤ 8 ^ (f + 1) := Nat.pow_pos (by decide)
        by_cases c7 : c = 7
        · rw [if_pos c7]; exact Nat.zero_le _
        · rw [if_neg c7]; exact Nat.le_trans jd_len h1
      · rw [sr_go hk hs]
        have := hF 8 (c :: st) 0
        rw [Nat.pow_succ, Nat.mul_comm]
        exact this
    · rw [sr_no hk]; exact Nat.zero_le _
theorem srF_len {g : xGr} {a : auT} {e : xEn} {cost guard : Int} (f : Nat) : ∀ (m : Nat) (st : List Int) (c : Int), (srF g a e cost guard f st m c).length ≤ m * 8 ^ f := by
  intro m
  induction m with
  | zero => intro st c; exact Nat.zero_le _
  | succ m ihm =>
    intro st c
    show (sr g a e cost guard f st c ++ srF g a e cost guard f st m (c + 1)).length ≤ _
    rw [List.length_append, Nat.succ_mul]
    have := sr_len (g := g) (a := a) (e := e) (cost := cost) (guard := guard) f st c
    have := ihm st (c + 1)
    omega
theorem srA_len {g : xGr} {a : auT} {e : xEn} {cost guard : Int} : (srA g a e cost guard).length ≤ 16777216 := by
  have := srF_len (g := g) (a := a) (e := e) (cost := cost) (guard := guard) 7 8 [] 0
  exact Nat.le_trans this (by decide)
/-- what is found is a row of steps that may be gone, at most six of them -/
def fdOk (e : xEn) (q : List Int × Int) : Prop := stOk q.1 ∧ ndV e q.1 ∧ (ndP e q.1).2.2.2.1 ≤ 3 ∧ (ndP e q.1).2.2.1 ≤ 3 ∧ (1 ≤ q.1.length ∧ q.1.length ≤ 6) ∧ -40 ≤ q.2 ∧ q.2 ≤ 40
theorem jd_ok {g : xGr} (hw : gW g) {a : auT} (ho : auOk g a) (hc : auC g a) {e : xEn} (he : enOk e) {guard : Int} {st : List Int} (h1 : stOk st) (h2 : ndV e st) (h3 : (ndP e st).2.2.2.1 ≤ 3) (h4 : (ndP e st).2.2.1 ≤ 3) (h5 : 1 ≤ st.length) : ∀ q ∈ jd g a e guard st, fdOk e q := by
  intro q hq
  have hr := ndV.rng he h1 h2
  have hwd : ∀ k, 0 ≤ k → k < ndN e st → 0 ≤ ndT e st k ∧ ndT e st k < 6 := by
    intro k k1 k2
    unfold ndT
    by_cases ck : k < (ndP e st).1
    · rw [if_pos ck]; exact hr.2.2.2.2.2.2.2.2 k k1 ck
    · rw [if_neg ck]
      unfold ndN at k2
      exact he.2.1 _ (by omega) (by omega)
  have hn : 0 ≤ ndN e st ∧ ndN e st ≤ 19 := by
    unfold ndN
    have := he.1
    omega
  have hz := pR.rng hn.1 hwd (pz_ok hw ho hc hn hwd)
  by_cases c1 : 0 ≤ pz g a (ndT e st) (ndN e st) ∧ pz g a (ndT e st) (ndN e st) < (ndP e st).1 + guard
  · rw [jd_no c1] at hq; cases hq
  · rw [jd_yes c1] at hq
    rw [List.mem_singleton.mp hq]
    have := he.1
    refine ⟨h1, h2, h3, h4, ⟨h5, by show st.length ≤ 6; omega⟩, ?_⟩
    show -40 ≤ (if _ then _ else _) ∧ (if _ then _ else _) ≤ (40 : Int)
    unfold ndN at hz hn
    by_cases c2 : pz g a (ndT e st) (ndN e st) < 0
    · rw [if_pos c2]; omega
    · rw [if_neg c2]
      unfold ndN at c2 ⊢
      omega
theorem sr_ok {g : xGr} (hw : gW g) {a : auT} (ho : auOk g a) (hc : auC g a) {e : xEn} (he : enOk e) {cost guard : Int} (hcost : cost ≤ 3) : ∀ (f : Nat) (st : List Int) (c : Int), stOk st → ndV e st → 0 ≤ c → c ≤ 7 → ∀ q ∈ sr g a e cost guard f st c, fdOk e q := by
  intro f
  induction f with
  | zero => intro st c _ _ _ _ q hq; cases hq
  | succ f ih =>
    intro st c h1 h2 h3 h4 q hq
    by_cases hk : ndK g a e cost st c
    · have hs1 : stOk (c :: st) := fun x hx => by
        rcases List.mem_cons.mp hx with rfl | hx
        · exact ⟨h3, h4⟩
        · exact h1 x hx
      have hv1 : ndV e (c :: st) := ⟨h2, hk.1⟩
      by_cases hs : (ndP e (c :: st)).2.2.1 = cost
      · rw [sr_end hk hs] at hq
        by_cases c7 : c = 7
        · rw [if_pos c7] at hq; cases hq
        · rw [if_neg c7] at hq
          exact jd_ok hw ho hc he hs1 hv1 hk.2.1 (by omega) (by simp) q hq
      · rw [sr_go hk hs] at hq
        have hF : ∀ (m : Nat) (c' : Int), 0 ≤ c' → c' + m ≤ 8 → q ∈ srF g a e cost guard f (c :: st) m c' → fdOk e q := by
          intro m
          induction m with
          | zero => intro c' _ _ h; cases h
          | succ m ihm =>
            intro c' k1 k2 h
            rcases List.mem_append.mp (show q ∈ sr g a e cost guard f (c :: st) c' ++ srF g a e cost guard f (c :: st) m (c' + 1) from h) with h | h
            · exact ih (c :: st) c' hs1 hv1 k1 (by omega) q h
            · exact ihm (c' + 1) (by omega) (by omega) h
        exact hF 8 0 (by omega) (by omega) hq
    · rw [sr_no hk] at hq; cases hq
theorem srA_ok {g : xGr} (hw : gW g) {a : auT} (ho : auOk g a) (hc : auC g a) {e : xEn} (he : enOk e) {cost guard : Int} (hcost : cost ≤ 3) : ∀ q ∈ srA g a e cost guard, fdOk e q := by
  intro q hq
  have hF : ∀ (m : Nat) (c' : Int), 0 ≤ c' → c' + m ≤ 8 → q ∈ srF g a e cost guard 7 [] m c' → fdOk e q := by
    intro m
    induction m with
    | zero => intro c' _ _ h; cases h
    | succ m ihm =>
      intro c' k1 k2 h
      rcases List.mem_append.mp (show q ∈ sr g a e cost guard 7 [] c' ++ srF g a e cost guard 7 [] m (c' + 1) from h) with h | h
      · exact sr_ok hw ho hc he hcost 7 [] c' (fun _ h => by cases h) trivial k1 (by omega) q h
      · exact ihm (c' + 1) (by omega) (by omega) h
  exact hF 8 0 (by omega) (by omega) hq
