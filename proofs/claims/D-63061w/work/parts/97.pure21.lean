/-! pure rows: repairs do not look beyond the text -/
def enQ (e e' : xEn) : Prop := e.1 = e'.1 ∧ (∀ k, 0 ≤ k → k < e.1 → e.2.1 k = e'.2.1 k) ∧ (∀ x, 0 ≤ x → x < 6 → e.2.2.1 x = e'.2.2.1 x ∧ e.2.2.2.1 x = e'.2.2.2.1 x) ∧ e.2.2.2.2 = e'.2.2.2.2
/-- two rows' places -/
def ndE (ν ν' : xNd) : Prop := ν.1 = ν'.1 ∧ ν.2.1 = ν'.2.1 ∧ ν.2.2.1 = ν'.2.2.1 ∧ ν.2.2.2.1 = ν'.2.2.2.1 ∧ ∀ k, 0 ≤ k → k < ν.1 → ν.2.2.2.2 k = ν'.2.2.2.2 k
theorem ndO_q {e e' : xEn} (h : enQ e e') {st : List Int} (hp : ndE (ndP e st) (ndP e' st)) (c : Int) : ndO e st c ↔ ndO e' st c := by
  unfold ndO
  rw [h.1, hp.2.1]
theorem ndE.step {e e' : xEn} (he : enOk e) (h : enQ e e') {st : List Int} (hs : stOk st) (hv : ndV e st) (hp : ndE (ndP e st) (ndP e' st)) {c : Int} (hc : 0 ≤ c ∧ c ≤ 7) (ho : ndO e st c) : ndE (ndP e (c :: st)) (ndP e' (c :: st)) := by
  have hr := ndV.rng he hs hv
  obtain ⟨p1, p2, p3, p4, p5⟩ := hp
  by_cases c6 : c < 6
  · rw [nd_put c6, nd_put c6]
    refine ⟨by show (ndP e st).1 + 1 = _; rw [p1], p2, by show (ndP e st).2.2.1 + e.2.2.1 c = _; rw [p3, (h.2.2.1 c hc.1 c6).1], p4, fun k k0 k1 => ?_⟩
    show up1 (ndP e st).2.2.2.2 (ndP e st).1 c k = up1 (ndP e' st).2.2.2.2 (ndP e' st).1 c k
    have k1' : k < (ndP e st).1 + 1 := k1
    rw [← p1]
    by_cases ck : k = (ndP e st).1
    · rw [ck, up1_s, up1_s]
    · rw [up1_n _ _ ck, up1_n _ _ ck]; exact p5 k k0 (by omega)
  · have hA : (ndP e st).2.1 < e.1 := by
      have := ho.1
      omega
    have hA0 := hr.2.2.1.1
    have et : e.2.1 (ndP e st).2.1 = e'.2.1 (ndP e' st).2.1 := by rw [← p2]; exact h.2.1 _ hA0 hA
    have hx := he.2.1 _ hA0 hA
    by_cases c7 : c = 6
    · rw [c7, nd_take, nd_take]
      exact ⟨p1, by show (ndP e st).2.1 + 1 = _; rw [p2], by show (ndP e st).2.2.1 + e.2.2.2.1 (e.2.1 (ndP e st).2.1) = (ndP e' st).2.2.1 + e'.2.2.2.1 (e'.2.1 (ndP e' st).2.1); rw [p3, ← et, (h.2.2.1 _ hx.1 hx.2).2], p4, p5⟩
    · have c8 : c = 7 := by omega
      rw [c8, nd_pass, nd_pass]
      refine ⟨by show (ndP e st).1 + 1 = _; rw [p1], by show (ndP e st).2.1 + 1 = _; rw [p2], p3, by show (ndP e st).2.2.2.1 + 1 = _; rw [p4], fun k k0 k1 => ?_⟩
      show up1 (ndP e st).2.2.2.2 (ndP e st).1 (e.2.1 (ndP e st).2.1) k = up1 (ndP e' st).2.2.2.2 (ndP e' st).1 (e'.2.1 (ndP e' st).2.1) k
      have k1' : k < (ndP e st).1 + 1 := k1
      rw [← p1, et]
      by_cases ck : k = (ndP e st).1
      · rw [ck, up1_s, up1_s]
      · rw [up1_n _ _ ck, up1_n _ _ ck]; exact p5 k k0 (by omega)
theorem enQ.p {e e' : xEn} (he : enOk e) (h : enQ e e') : ∀ {st : List Int}, stOk st → ndV e st → ndE (ndP e st) (ndP e' st) ∧ ndV e' st := by
  intro st
  induction st with
  | nil =>
    intro _ _
    have h5 := he.2.2.2.2
    exact ⟨⟨h.2.2.2, h.2.2.2, rfl, rfl, fun k k0 k1 => h.2.1 k k0 (by have : k < e.2.2.2.2 := k1; omega)⟩, trivial⟩
  | cons c st ih =>
    intro hs hv
    obtain ⟨i1, i2⟩ := ih (fun x hx => hs x (List.mem_cons_of_mem _ hx)) hv.1
    exact ⟨ndE.step he h (fun x hx => hs x (List.mem_cons_of_mem _ hx)) hv.1 i1 (hs c List.mem_cons_self) hv.2, i2, (ndO_q h i1 c).mp hv.2⟩
theorem ndT_q {e e' : xEn} (he : enOk e) (h : enQ e e') {st : List Int} (hs : stOk st) (hv : ndV e st) : ndN e st = ndN e' st ∧ ∀ k, 0 ≤ k → k < ndN e st → ndT e st k = ndT e' st k := by
  obtain ⟨⟨p1, p2, -, -, p5⟩, -⟩ := enQ.p he h hs hv
  have hr := ndV.rng he hs hv
  refine ⟨by unfold ndN; rw [p1, p2, h.1], fun k k0 k1 => ?_⟩
  unfold ndT
  rw [← p1, ← p2]
  by_cases c : k < (ndP e st).1
  · rw [if_pos c, if_pos c]; exact p5 k k0 c
  · rw [if_neg c, if_neg c]
    unfold ndN at k1
    exact h.2.1 _ (by omega) (by omega)
theorem jd_q {g : xGr} {a : auT} {e e' : xEn} (he : enOk e) (h : enQ e e') {guard : Int} {st : List Int} (hs : stOk st) (hv : ndV e st) : jd g a e guard st = jd g a e' guard st := by
  obtain ⟨t1, t2⟩ := ndT_q he h hs hv
  obtain ⟨⟨p1, p2, -, -, -⟩, -⟩ := enQ.p he h hs hv
  have ez : pz g a (ndT e st) (ndN e st) = pz g a (ndT e' st) (ndN e' st) := by rw [pz_congr t2, t1]
  unfold jd
  rw [ez, p1, p2, h.1]
theorem ndK_q {g : xGr} {a : auT} {e e' : xEn} (he : enOk e) (h : enQ e e') {cost : Int} {st : List Int} (hs : stOk st) (hv : ndV e st) {c : Int} (hc : 0 ≤ c ∧ c ≤ 7) : ndK g a e cost st c ↔ ndK g a e' cost st c := by
  obtain ⟨hp, -⟩ := enQ.p he h hs hv
  have ho := ndO_q h hp c
  unfold ndK
  by_cases co : ndO e st c
  · obtain ⟨q1, q2, q3, q4, q5⟩ := ndE.step he h hs hv hp hc co
    have hg : ndG g a e (c :: st) ↔ ndG g a e' (c :: st) := by
      unfold ndG
      rw [pz_congr q5, q1]
    rw [q3, q4, hg, ho]
  · exact ⟨fun q => absurd q.1 co, fun q => absurd (ho.mpr q.1) co⟩
theorem sr_q {g : xGr} {a : auT} {e e' : xEn} (he : enOk e) (h : enQ e e') {cost guard : Int} : ∀ (f : Nat) {st : List Int} {c : Int}, stOk st → ndV e st → 0 ≤ c ∧ c ≤ 7 → sr g a e cost guard f st c = sr g a e' cost guard f st c := by
  intro f
  induction f with
  | zero => intro st c _ _ _; rfl
  | succ f ih =>
    intro st c hs hv hc
    have hK := ndK_q (g := g) (a := a) he h (cost := cost) hs hv hc
    by_cases hk : ndK g a e cost st c
    · have hs1 : stOk (c :: st) := fun x hx => by
        rcases List.mem_cons.mp hx with rfl | hx
        · exact hc
        · exact hs x hx
      have hv1 : ndV e (c :: st) := ⟨hv, hk.1⟩
      have q3 := (enQ.p he h hs1 hv1).1.2.2.1
      by_cases hsm : (ndP e (c :: st)).2.2.1 = cost
      · rw [sr_end hk hsm, sr_end (hK.mp hk) (by rw [← q3]; exact hsm), jd_q he h hs1 hv1]
      · rw [sr_go hk hsm, sr_go (hK.mp hk) (by rw [← q3]; exact hsm)]
        have hF : ∀ (m : Nat) (c' : Int), 0 ≤ c' → c' + m ≤ 8 → srF g a e cost guard f (c :: st) m c' = srF g a e' cost guard f (c :: st) m c' := by
          intro m
          induction m with
          | zero => intro c' _ _; rfl
          | succ m ihm =>
            intro c' k1 k2
            show sr g a e cost guard f (c :: st) c' ++ srF g a e cost guard f (c :: st) m (c' + 1) = sr g a e' cost guard f (c :: st) c' ++ srF g a e' cost guard f (c :: st) m (c' + 1)
            rw [ih hs1 hv1 ⟨k1, by omega⟩, ihm (c' + 1) (by omega) (by omega)]
        exact hF 8 0 (by omega) (by omega)
    · rw [sr_no hk, sr_no (fun q => hk (hK.mpr q))]
theorem srA_q {g : xGr} {a : auT} {e e' : xEn} (he : enOk e) (h : enQ e e') {cost guard : Int} : srA g a e cost guard = srA g a e' cost guard := by
  have hF : ∀ (m : Nat) (c' : Int), 0 ≤ c' → c' + m ≤ 8 → srF g a e cost guard 7 [] m c' = srF g a e' cost guard 7 [] m c' := by
    intro m
    induction m with
    | zero => intro c' _ _; rfl
    | succ m ihm =>
      intro c' k1 k2
      show sr g a e cost guard 7 [] c' ++ srF g a e cost guard 7 [] m (c' + 1) = sr g a e' cost guard 7 [] c' ++ srF g a e' cost guard 7 [] m (c' + 1)
      rw [sr_q he h 7 (st := []) (fun _ hx => by cases hx) trivial ⟨k1, by omega⟩, ihm (c' + 1) (by omega) (by omega)]
  exact hF 8 0 (by omega) (by omega)
theorem rsl_q {g : xGr} {a : auT} {e e' : xEn} (he : enOk e) (h : enQ e e') {guard : Int} : rsl g a e guard = rsl g a e' guard := by
  unfold rsl
  rw [srA_q he h, srA_q he h, srA_q he h]
theorem gP_id {R : xR} (h : mGr R) : gP (gM R) = gM R := by
  obtain ⟨h1, h2, h3, h4, h5, h6, h7, h8⟩ := h
  unfold gP
  have e1 : (fun r => if r = 10 then (6 : Int) else (gM R).2.1 r) = (gM R).2.1 := by
    funext r
    by_cases c : r = 10
    · rw [if_pos c, c]; exact h5.symm
    · rw [if_neg c]
  have e2 : (fun r => if r = 10 then (1 : Int) else if (gM R).1 ≤ r ∧ r < 10 then 0 else (gM R).2.2.1 r) = (gM R).2.2.1 := by
    funext r
    by_cases c : r = 10
    · rw [if_pos c, c]; exact h6.symm
    · rw [if_neg c]
      by_cases c2 : (gM R).1 ≤ r ∧ r < 10
      · rw [if_pos c2]; exact (h8 r c2.1 c2.2).symm
      · rw [if_neg c2]
  have e3 : (fun r k => if 4 * r + k = 40 then 6 + (gM R).2.1 0 else (gM R).2.2.2 r k) = (gM R).2.2.2 := by
    funext r k
    by_cases c : 4 * r + k = 40
    · rw [if_pos c]
      show 6 + R 35 0 = R 37 (4 * r + k)
      rw [c]; exact h7.symm
    · rw [if_neg c]
  rw [e1, e2, e3]
theorem gP_gP (g : xGr) : gP (gP g) = gP g := by
  unfold gP
  have e2 : (fun r => if r = 10 then (1 : Int) else if g.1 ≤ r ∧ r < 10 then 0 else if r = 10 then 1 else if g.1 ≤ r ∧ r < 10 then 0 else g.2.2.1 r) = (fun r => if r = 10 then (1 : Int) else if g.1 ≤ r ∧ r < 10 then 0 else g.2.2.1 r) := by
    funext r
    by_cases c : r = 10
    · rw [if_pos c, if_pos c]
    · rw [if_neg c, if_neg c]
      by_cases c2 : g.1 ≤ r ∧ r < 10
      · rw [if_pos c2, if_pos c2]
      · rw [if_neg c2, if_neg c2]
  have e1 : (fun r => if r = 10 then (6 : Int) else if r = 10 then 6 else g.2.1 r) = (fun r => if r = 10 then (6 : Int) else g.2.1 r) := by
    funext r
    by_cases c : r = 10
    · rw [if_pos c, if_pos c]
    · rw [if_neg c, if_neg c]
  have e3 : (fun r k => if 4 * r + k = 40 then 6 + (if (0 : Int) = 10 then (6 : Int) else g.2.1 0) else if 4 * r + k = 40 then 6 + g.2.1 0 else g.2.2.2 r k) = (fun r k => if 4 * r + k = 40 then 6 + g.2.1 0 else g.2.2.2 r k) := by
    funext r k
    by_cases c : 4 * r + k = 40
    · rw [if_pos c, if_pos c, if_neg (by decide)]
    · rw [if_neg c, if_neg c]
  dsimp only
  rw [e1, e2, e3]
