/-! THE FRAME: a memory of regions (numbers for cells), contents as whole numbers; V: the walk over such a memory -/
-- ===== whole numbers =====
def iI (z : Int) : Int32 := Int32.ofInt z
def lI (z : Int) : Int64 := Int64.ofInt z
abbrev vi (z : Int) : Value := .int (iI z)
abbrev vl (z : Int) : Value := .long (lI z)
theorem iI_add (a b : Int) : iI a + iI b = iI (a + b) := (Int32.ofInt_add a b).symm
theorem iI_sub (a b : Int) : iI a - iI b = iI (a - b) := (Int32.ofInt_sub a b).symm
theorem iI_mul (a b : Int) : iI a * iI b = iI (a * b) := (Int32.ofInt_mul a b).symm
theorem iI_toInt {a : Int} (h : -2147483648 ≤ a ∧ a < 2147483648) : (iI a).toInt = a := by
  unfold iI
  rw [Int32.toInt_ofInt_of_le (by have := h.1; simpa using this) (by have := h.2; simpa using this)]
theorem iI_lt {a b : Int} (ha : -2147483648 ≤ a ∧ a < 2147483648) (hb : -2147483648 ≤ b ∧ b < 2147483648) : iI a < iI b ↔ a < b := by
  rw [Int32.lt_iff_toInt_lt, iI_toInt ha, iI_toInt hb]
theorem iI_le {a b : Int} (ha : -2147483648 ≤ a ∧ a < 2147483648) (hb : -2147483648 ≤ b ∧ b < 2147483648) : iI a ≤ iI b ↔ a ≤ b := by
  rw [Int32.le_iff_toInt_le, iI_toInt ha, iI_toInt hb]
theorem iI_eq {a b : Int} (ha : -2147483648 ≤ a ∧ a < 2147483648) (hb : -2147483648 ≤ b ∧ b < 2147483648) : iI a = iI b ↔ a = b := by
  rw [← Int32.toInt_inj, iI_toInt ha, iI_toInt hb]
theorem iI_0 : iI 0 = 0 := by decide
theorem iI_lt0 {a : Int} (ha : -2147483648 ≤ a ∧ a < 2147483648) : iI a < 0 ↔ a < 0 := by
  have h := iI_lt (b := 0) ha (by omega)
  rwa [iI_0] at h
theorem iI_le0 {a : Int} (ha : -2147483648 ≤ a ∧ a < 2147483648) : iI a ≤ 0 ↔ a ≤ 0 := by
  have h := iI_le (b := 0) ha (by omega)
  rwa [iI_0] at h
theorem iI_0le {a : Int} (ha : -2147483648 ≤ a ∧ a < 2147483648) : 0 ≤ iI a ↔ 0 ≤ a := by
  have h := iI_le (a := 0) (by omega) ha
  rwa [iI_0] at h
theorem iI_0lt {a : Int} (ha : -2147483648 ≤ a ∧ a < 2147483648) : 0 < iI a ↔ 0 < a := by
  have h := iI_lt (a := 0) (by omega) ha
  rwa [iI_0] at h
theorem iI_eq0 {a : Int} (ha : -2147483648 ≤ a ∧ a < 2147483648) : iI a = 0 ↔ a = 0 := by
  have h := iI_eq (b := 0) ha (by omega)
  rwa [iI_0] at h
theorem iI_of (x : Int32) : ∃ z : Int, (-2147483648 ≤ z ∧ z < 2147483648) ∧ x = iI z := by
  refine ⟨x.toInt, ⟨?_, ?_⟩, ?_⟩
  · have := Int32.le_toInt x; simpa using this
  · have := Int32.toInt_lt x; simpa using this
  · unfold iI; rw [Int32.ofInt_toInt]
theorem iI_nat (n : Nat) : iI (n : Int) = nI n := by
  unfold iI nI
  rw [Int32.ofInt_eq_ofNat]
theorem iI_clamp {a : Int} (h : 0 ≤ a ∧ a < 2147483648) : (iI a).toNatClampNeg = a.toNat := by
  obtain ⟨n, rfl⟩ := Int.eq_ofNat_of_zero_le h.1
  rw [iI_nat, nI_clamp (by omega)]
  rfl
theorem iI_in {a : Int} {n : Nat} (h : 0 ≤ a ∧ a < n) (hn : n < 2147483648) : ¬ (iI a < 0 ∨ n ≤ (iI a).toNatClampNeg) := by
  rw [iI_clamp (by omega), iI_lt0 (by omega)]
  omega
-- ===== the memory =====
/-- the shape of a region: its cell's address, its type (0: none), its length -/
abbrev xS : Type := Int → Nat × Nat × Nat
/-- what regions hold -/
abbrev xR : Type := Int → Int → Int
def xup (R : xR) (k i v : Int) : xR := fun a b => if a = k ∧ b = i then v else R a b
def xsu (σ : xS) (k : Int) (t : Nat × Nat × Nat) : xS := fun a => if a = k then t else σ a
def xru (R : xR) (k : Int) (f : Int → Int) : xR := fun a => if a = k then f else R a
/-- a reference as a number: 0 is null, a + 1 the cell a -/
def rz : Int → Value
  | .ofNat 0 => .null
  | .ofNat (n + 1) => .ref n
  | .negSucc _ => .null
theorem rz_0 : rz 0 = .null := rfl
theorem rz_s (a : Nat) : rz ((a : Int) + 1) = .ref a := rfl
theorem rz_or (z : Int) : rz z = .null ∨ ∃ a, rz z = .ref a := by
  cases z with
  | ofNat n => cases n with
    | zero => exact Or.inl rfl
    | succ n => exact Or.inr ⟨n, rfl⟩
  | negSucc n => exact Or.inl rfl
/-- what a slot of kind kd of region k holds: 0 an int, 1 a long, 2 a reference as a number, 3 the region behind it, 4 + c the region c -/
def xV (σ : xS) (k : Int) (kd : Nat) (z : Int) : Value := match kd with
  | 0 => .int (iI z)
  | 1 => .long (lI z)
  | 2 => rz z
  | 3 => .ref (σ (k + 1)).1
  | n + 4 => .ref (σ (n : Int)).1
/-- the region that a slot of that kind names -/
def xtg (k : Int) (kd : Nat) : Option Int := match kd with
  | 0 => none
  | 1 => none
  | 2 => none
  | 3 => some (k + 1)
  | n + 4 => some (n : Int)
-- ===== classes =====
def R_Desk : String := "RepairDesk"
def F_Desk : u_T := fun k => match k with
  | 0 => ("RepairDesk", "rules", "Ljava/util/ArrayList;", true)
  | 1 => ("RepairDesk", "used", "Ljava/util/ArrayList;", true)
  | 2 => ("RepairDesk", "typed", "Ljava/lang/StringBuilder;", true)
  | 3 => ("RepairDesk", "costs", "[[I", true)
  | 4 => ("RepairDesk", "text", "[I", true)
  | 5 => ("RepairDesk", "size", "I", false)
  | 6 => ("RepairDesk", "lives", "[Z", true)
  | 7 => ("RepairDesk", "empties", "[Z", true)
  | 8 => ("RepairDesk", "begins", "[I", true)
  | 9 => ("RepairDesk", "pool", "Ljava/util/ArrayList;", true)
  | 10 => ("RepairDesk", "states", "I", false)
  | 11 => ("RepairDesk", "spare", "LRepairDesk$State;", false)
  | 12 => ("RepairDesk", "compiled", "Z", false)
  | 13 => ("RepairDesk", "items", "I", false)
  | 14 => ("RepairDesk", "leads", "[[S", true)
  | 15 => ("RepairDesk", "stack", "[I", true)
  | 16 => ("RepairDesk", "now", "[I", true)
  | 17 => ("RepairDesk", "steps", "[I", true)
  | 18 => ("RepairDesk", "found", "[[B", true)
  | 19 => ("RepairDesk", "lengths", "[I", true)
  | 20 => ("RepairDesk", "reaches", "[I", true)
  | 21 => ("RepairDesk", "repairs", "I", false)
  | _ => ("RepairDesk", "price", "I", false)
def t_Desk : Nat → FieldType := fun k => match k with
  | 0 => .object "java/util/ArrayList"
  | 1 => .object "java/util/ArrayList"
  | 2 => .object "java/lang/StringBuilder"
  | 3 => .array (.array .int)
  | 4 => .array .int
  | 5 => .int
  | 6 => .array .boolean
  | 7 => .array .boolean
  | 8 => .array .int
  | 9 => .object "java/util/ArrayList"
  | 10 => .int
  | 11 => .object "RepairDesk$State"
  | 12 => .boolean
  | 13 => .int
  | 14 => .array (.array .short)
  | 15 => .array .int
  | 16 => .array .int
  | 17 => .array .int
  | 18 => .array (.array .byte)
  | 19 => .array .int
  | 20 => .array .int
  | 21 => .int
  | _ => .int
theorem n_Desk : ∀ a, a < 23 → ∀ b, b < 23 → a ≠ b → (F_Desk a).2.1 ≠ (F_Desk b).2.1 := by decide +kernel
theorem t_Desk_ok : ∀ k, k < 23 → parseFieldDescriptor (F_Desk k).2.2.1 = some (t_Desk k) := by decide +kernel
def R_Rule : String := "RepairDesk$Rule"
def F_Rule : u_T := fun k => match k with
  | 0 => ("RepairDesk$Rule", "left", "I", true)
  | _ => ("RepairDesk$Rule", "right", "[I", true)
def t_Rule : Nat → FieldType := fun k => match k with
  | 0 => .int
  | _ => .array .int
theorem n_Rule : ∀ a, a < 2 → ∀ b, b < 2 → a ≠ b → (F_Rule a).2.1 ≠ (F_Rule b).2.1 := by decide +kernel
theorem t_Rule_ok : ∀ k, k < 2 → parseFieldDescriptor (F_Rule k).2.2.1 = some (t_Rule k) := by decide +kernel
def R_State : String := "RepairDesk$State"
def F_State : u_T := fun k => match k with
  | _ => ("RepairDesk$State", "bits", "[J", true)
def t_State : Nat → FieldType := fun k => match k with
  | _ => .array .long
theorem n_State : ∀ a, a < 1 → ∀ b, b < 1 → a ≠ b → (F_State a).2.1 ≠ (F_State b).2.1 := by decide +kernel
theorem t_State_ok : ∀ k, k < 1 → parseFieldDescriptor (F_State k).2.2.1 = some (t_State k) := by decide +kernel
def R_AL : String := "java/util/ArrayList"
def F_AL : u_T := fun k => match k with
  | 0 => ("java/util/ArrayList", "elementData", "[Ljava/lang/Object;", false)
  | 1 => ("java/util/ArrayList", "size", "I", false)
  | _ => ("java/util/AbstractList", "modCount", "I", false)
def t_AL : Nat → FieldType := fun k => match k with
  | 0 => .array (.object "java/lang/Object")
  | 1 => .int
  | _ => .int
theorem n_AL : ∀ a, a < 3 → ∀ b, b < 3 → a ≠ b → (F_AL a).2.1 ≠ (F_AL b).2.1 := by decide +kernel
theorem t_AL_ok : ∀ k, k < 3 → parseFieldDescriptor (F_AL k).2.2.1 = some (t_AL k) := by decide +kernel
def R_SB : String := "java/lang/StringBuilder"
def F_SB : u_T := fun k => match k with
  | 0 => ("java/lang/AbstractStringBuilder", "value", "[B", false)
  | 1 => ("java/lang/AbstractStringBuilder", "coder", "B", false)
  | 2 => ("java/lang/AbstractStringBuilder", "maybeLatin1", "Z", false)
  | _ => ("java/lang/AbstractStringBuilder", "count", "I", false)
def t_SB : Nat → FieldType := fun k => match k with
  | 0 => .array .byte
  | 1 => .byte
  | 2 => .boolean
  | _ => .int
theorem n_SB : ∀ a, a < 4 → ∀ b, b < 4 → a ≠ b → (F_SB a).2.1 ≠ (F_SB b).2.1 := by decide +kernel
theorem t_SB_ok : ∀ k, k < 4 → parseFieldDescriptor (F_SB k).2.2.1 = some (t_SB k) := by decide +kernel
def R_Str : String := "java/lang/String"
def F_Str : u_T := fun k => match k with
  | 0 => ("java/lang/String", "value", "[B", true)
  | 1 => ("java/lang/String", "coder", "B", true)
  | 2 => ("java/lang/String", "hash", "I", false)
  | _ => ("java/lang/String", "hashIsZero", "Z", false)
def t_Str : Nat → FieldType := fun k => match k with
  | 0 => .array .byte
  | 1 => .byte
  | 2 => .int
  | _ => .boolean
theorem n_Str : ∀ a, a < 4 → ∀ b, b < 4 → a ≠ b → (F_Str a).2.1 ≠ (F_Str b).2.1 := by decide +kernel
theorem t_Str_ok : ∀ k, k < 4 → parseFieldDescriptor (F_Str k).2.2.1 = some (t_Str k) := by decide +kernel
def R_Model : String := "RepairDeskModel"
def F_Model : u_T := fun k => match k with
  | 0 => ("RepairDeskModel", "fault", "I", false)
  | 1 => ("RepairDeskModel", "text", "[C", true)
  | 2 => ("RepairDeskModel", "written", "I", false)
  | 3 => ("RepairDeskModel", "rules", "I", false)
  | 4 => ("RepairDeskModel", "left", "[I", true)
  | 5 => ("RepairDeskModel", "length", "[I", true)
  | 6 => ("RepairDeskModel", "right", "[I", true)
  | 7 => ("RepairDeskModel", "used", "[Z", true)
  | 8 => ("RepairDeskModel", "comes", "[Z", true)
  | 9 => ("RepairDeskModel", "empty", "[Z", true)
  | 10 => ("RepairDeskModel", "first", "[I", true)
  | 11 => ("RepairDeskModel", "states", "I", false)
  | 12 => ("RepairDeskModel", "made", "I", false)
  | 13 => ("RepairDeskModel", "follow", "[I", true)
  | 14 => ("RepairDeskModel", "next", "[I", true)
  | 15 => ("RepairDeskModel", "letters", "I", false)
  | 16 => ("RepairDeskModel", "wrong", "I", false)
  | 17 => ("RepairDeskModel", "word", "[I", true)
  | 18 => ("RepairDeskModel", "fresh", "[I", true)
  | 19 => ("RepairDeskModel", "stack", "[I", true)
  | 20 => ("RepairDeskModel", "putCost", "[I", true)
  | 21 => ("RepairDeskModel", "takeCost", "[I", true)
  | 22 => ("RepairDeskModel", "found", "I", false)
  | 23 => ("RepairDeskModel", "price", "I", false)
  | 24 => ("RepairDeskModel", "steps", "[I", true)
  | 25 => ("RepairDeskModel", "reaches", "[I", true)
  | 26 => ("RepairDeskModel", "row", "[I", true)
  | 27 => ("RepairDeskModel", "size", "I", false)
  | _ => ("RepairDeskModel", "rest", "I", false)
def t_Model : Nat → FieldType := fun k => match k with
  | 0 => .int
  | 1 => .array .char
  | 2 => .int
  | 3 => .int
  | 4 => .array .int
  | 5 => .array .int
  | 6 => .array .int
  | 7 => .array .boolean
  | 8 => .array .boolean
  | 9 => .array .boolean
  | 10 => .array .int
  | 11 => .int
  | 12 => .int
  | 13 => .array .int
  | 14 => .array .int
  | 15 => .int
  | 16 => .int
  | 17 => .array .int
  | 18 => .array .int
  | 19 => .array .int
  | 20 => .array .int
  | 21 => .array .int
  | 22 => .int
  | 23 => .int
  | 24 => .array .int
  | 25 => .array .int
  | 26 => .array .int
  | 27 => .int
  | _ => .int
theorem n_Model : ∀ a, a < 29 → ∀ b, b < 29 → a ≠ b → (F_Model a).2.1 ≠ (F_Model b).2.1 := by decide +kernel
theorem t_Model_ok : ∀ k, k < 29 → parseFieldDescriptor (F_Model k).2.2.1 = some (t_Model k) := by decide +kernel
def R_IAE : String := "java/lang/IllegalArgumentException"
def F_IAE : u_T := fun k => match k with
  | 0 => ("java/lang/Throwable", "cause", "Ljava/lang/Throwable;", false)
  | 1 => ("java/lang/Throwable", "stackTrace", "[Ljava/lang/StackTraceElement;", false)
  | 2 => ("java/lang/Throwable", "suppressedExceptions", "Ljava/util/List;", false)
  | 3 => ("java/lang/Throwable", "detailMessage", "Ljava/lang/String;", false)
  | 4 => ("java/lang/Throwable", "backtrace", "Ljava/lang/Object;", false)
  | _ => ("java/lang/Throwable", "depth", "I", false)
def t_IAE : Nat → FieldType := fun k => match k with
  | 0 => .object "java/lang/Throwable"
  | 1 => .array (.object "java/lang/StackTraceElement")
  | 2 => .object "java/util/List"
  | 3 => .object "java/lang/String"
  | 4 => .object "java/lang/Object"
  | _ => .int
theorem n_IAE : ∀ a, a < 6 → ∀ b, b < 6 → a ≠ b → (F_IAE a).2.1 ≠ (F_IAE b).2.1 := by decide +kernel
theorem t_IAE_ok : ∀ k, k < 6 → parseFieldDescriptor (F_IAE k).2.2.1 = some (t_IAE k) := by decide +kernel
def R_ISE : String := "java/lang/IllegalStateException"
def F_ISE : u_T := fun k => match k with
  | 0 => ("java/lang/Throwable", "cause", "Ljava/lang/Throwable;", false)
  | 1 => ("java/lang/Throwable", "stackTrace", "[Ljava/lang/StackTraceElement;", false)
  | 2 => ("java/lang/Throwable", "suppressedExceptions", "Ljava/util/List;", false)
  | 3 => ("java/lang/Throwable", "detailMessage", "Ljava/lang/String;", false)
  | 4 => ("java/lang/Throwable", "backtrace", "Ljava/lang/Object;", false)
  | _ => ("java/lang/Throwable", "depth", "I", false)
def t_ISE : Nat → FieldType := fun k => match k with
  | 0 => .object "java/lang/Throwable"
  | 1 => .array (.object "java/lang/StackTraceElement")
  | 2 => .object "java/util/List"
  | 3 => .object "java/lang/String"
  | 4 => .object "java/lang/Object"
  | _ => .int
theorem n_ISE : ∀ a, a < 6 → ∀ b, b < 6 → a ≠ b → (F_ISE a).2.1 ≠ (F_ISE b).2.1 := by decide +kernel
theorem t_ISE_ok : ∀ k, k < 6 → parseFieldDescriptor (F_ISE k).2.2.1 = some (t_ISE k) := by decide +kernel
def R_UOE : String := "java/lang/UnsupportedOperationException"
def F_UOE : u_T := fun k => match k with
  | 0 => ("java/lang/Throwable", "cause", "Ljava/lang/Throwable;", false)
  | 1 => ("java/lang/Throwable", "stackTrace", "[Ljava/lang/StackTraceElement;", false)
  | 2 => ("java/lang/Throwable", "suppressedExceptions", "Ljava/util/List;", false)
  | 3 => ("java/lang/Throwable", "detailMessage", "Ljava/lang/String;", false)
  | 4 => ("java/lang/Throwable", "backtrace", "Ljava/lang/Object;", false)
  | _ => ("java/lang/Throwable", "depth", "I", false)
def t_UOE : Nat → FieldType := fun k => match k with
  | 0 => .object "java/lang/Throwable"
  | 1 => .array (.object "java/lang/StackTraceElement")
  | 2 => .object "java/util/List"
  | 3 => .object "java/lang/String"
  | 4 => .object "java/lang/Object"
  | _ => .int
theorem n_UOE : ∀ a, a < 6 → ∀ b, b < 6 → a ≠ b → (F_UOE a).2.1 ≠ (F_UOE b).2.1 := by decide +kernel
theorem t_UOE_ok : ∀ k, k < 6 → parseFieldDescriptor (F_UOE k).2.2.1 = some (t_UOE k) := by decide +kernel
def R_NSE : String := "java/util/NoSuchElementException"
def F_NSE : u_T := fun k => match k with
  | 0 => ("java/lang/Throwable", "cause", "Ljava/lang/Throwable;", false)
  | 1 => ("java/lang/Throwable", "stackTrace", "[Ljava/lang/StackTraceElement;", false)
  | 2 => ("java/lang/Throwable", "suppressedExceptions", "Ljava/util/List;", false)
  | 3 => ("java/lang/Throwable", "detailMessage", "Ljava/lang/String;", false)
  | 4 => ("java/lang/Throwable", "backtrace", "Ljava/lang/Object;", false)
  | _ => ("java/lang/Throwable", "depth", "I", false)
def t_NSE : Nat → FieldType := fun k => match k with
  | 0 => .object "java/lang/Throwable"
  | 1 => .array (.object "java/lang/StackTraceElement")
  | 2 => .object "java/util/List"
  | 3 => .object "java/lang/String"
  | 4 => .object "java/lang/Object"
  | _ => .int
theorem n_NSE : ∀ a, a < 6 → ∀ b, b < 6 → a ≠ b → (F_NSE a).2.1 ≠ (F_NSE b).2.1 := by decide +kernel
theorem t_NSE_ok : ∀ k, k < 6 → parseFieldDescriptor (F_NSE k).2.2.1 = some (t_NSE k) := by decide +kernel
abbrev xcl : List vw_C := [(R_Desk, F_Desk, 23), (R_Rule, F_Rule, 2), (R_State, F_State, 1), (R_AL, F_AL, 3), (R_SB, F_SB, 4), (R_Str, F_Str, 4), (R_Model, F_Model, 29), (R_IAE, F_IAE, 0), (R_ISE, F_ISE, 0), (R_UOE, F_UOE, 0), (R_NSE, F_NSE, 0)]
def xct : List (Nat → FieldType) := [t_Desk, t_Rule, t_State, t_AL, t_SB, t_Str, t_Model, t_IAE, t_ISE, t_UOE, t_NSE]
/-- kinds of an object's slots -/
def xkl (t : Nat) : List Nat := match t with
  | 1 => [2, 2, 2, 2, 2, 0, 2, 2, 2, 2, 0, 2, 0, 0, 2, 2, 2, 2, 2, 2, 2, 0, 0]
  | 2 => [0, 2]
  | 3 => [2]
  | 4 => [2, 0, 0]
  | 5 => [2, 0, 0, 0]
  | 6 => [2, 0, 0, 0]
  | 7 => [0, 2, 0, 0, 2, 2, 2, 2, 2, 2, 2, 0, 0, 2, 2, 0, 0, 2, 2, 2, 2, 2, 0, 0, 2, 2, 2, 0, 0]
  | 8 => []
  | 9 => []
  | 10 => []
  | 11 => []
  | 17 => [6, 7, 14, 9, 12, 0, 16, 17, 18, 8, 0, 2, 0, 0, 19, 20, 21, 22, 23, 24, 25, 0, 0]
  | 18 => [0, 3]
  | 19 => [3]
  | 21 => [3, 0, 0, 0]
  | 22 => [3, 0, 0, 0]
  | 23 => [0, 36, 0, 0, 39, 40, 41, 42, 43, 44, 45, 0, 0, 48, 49, 0, 0, 52, 53, 54, 55, 56, 0, 0, 59, 60, 61, 0, 0]
  | _ => []
def xkd (t j : Nat) : Nat := match t with
  | 32 => 0
  | 33 => 0
  | 34 => 0
  | 35 => 0
  | 36 => 0
  | 37 => 1
  | 38 => 2
  | 39 => 2
  | 40 => 2
  | 41 => 2
  | 42 => 10 + j
  | 43 => 404 + j
  | 44 => 454 + j
  | t => (xkl t).getD j 0
/-- an array type's component -/
def xel (t : Nat) : FieldType := match t with
  | 32 => .int
  | 33 => .boolean
  | 34 => .char
  | 35 => .byte
  | 36 => .short
  | 37 => .long
  | 38 => .object "java/lang/Object"
  | 39 => .array .int
  | 40 => .array .short
  | 41 => .array .byte
  | 42 => .array .int
  | 43 => .array .short
  | _ => .array .byte
def xfts : List FieldType := [.int, .boolean, .char, .byte, .short, .long, .object "java/lang/Object", .array .int, .array .short, .array .byte]
/-- the slots that a region's type speaks of -/
def xns (t n : Nat) : Nat := if t < 32 then (match xcl[(t - 1) % 16]? with | some r => r.2.2 | none => 0) else n
def xAt (D : va_G) (dA : FieldType → ClassId) (σ : xS) (R : xR) (k : Int) (H : Heap) : Prop :=
  if (σ k).2.1 < 32 then ∃ r, xcl[((σ k).2.1 - 1) % 16]? = some r ∧ t_OB (σ k).1 (D.1 (((σ k).2.1 - 1) % 16)) r.2.2 (D.2 (((σ k).2.1 - 1) % 16)) H (fun j => xV σ k (xkd (σ k).2.1 j) (R k (j : Int)))
  else H[(σ k).1]? = some (arrV (dA (xel (σ k).2.1)) (σ k).2.2 (fun j => xV σ k (xkd (σ k).2.1 j) (R k (j : Int))))
/-- names for addresses that stay: ArrayList's empty array, Throwable's two statics (as numbers), the Class object of Object[] -/
def xc (k : Int) : FieldType := .object (if k = 90 then "#0" else if k = 91 then "#1" else if k = 92 then "#2" else if k = 93 then "#3" else if k = 94 then "#4" else "#5")
def xLk (dA : FieldType → ClassId) (σ : xS) : Prop := ∀ k : Int, 90 ≤ k → k ≤ 99 → (σ k).1 = dA (xc k) ∧ (σ k).2.1 = 0
/-- the heap holds the regions -/
def xH (D : va_G) (dA : FieldType → ClassId) (N0 : Nat) (σ : xS) (R : xR) (H : Heap) : Prop :=
  (∀ k, (σ k).2.1 ≠ 0 → N0 ≤ (σ k).1 ∧ xAt D dA σ R k H ∧ ∀ j, j < xns (σ k).2.1 (σ k).2.2 → ∀ c, xtg k (xkd (σ k).2.1 j) = some c → (σ c).2.1 ≠ 0) ∧
  (∀ j k, (σ j).2.1 ≠ 0 → (σ k).2.1 ≠ 0 → (σ j).1 = (σ k).1 → j = k) ∧ xLk dA σ
/-- what has moved since the method's entry -/
def xF (N0 : Nat) (s : State) (H : Heap) (locs : List Loc) : Prop := s.heap.size ≤ H.size ∧ (∀ q : Nat, q < N0 → H[q]? = s.heap[q]?) ∧ ∀ l ∈ locs, N0 ≤ l.base
theorem xF.rf {N0 : Nat} {s : State} : xF N0 s s.heap [] := ⟨Nat.le_refl _, fun _ _ => rfl, fun _ h => by cases h⟩
theorem xF.put {N0 : Nat} {s : State} {H H1 : Heap} {locs : List Loc} {a k : Nat} (h : xF N0 s H locs) (z : H1.size = H.size) (oq : ∀ q : Nat, q ≠ a → H1[q]? = H[q]?) (ha : N0 ≤ a) : xF N0 s H1 (locs ++ [⟨a, k⟩]) := by
  refine ⟨by rw [z]; exact h.1, fun q h1 => ?_, fun q hq => ?_⟩
  · rw [oq q (by omega)]
    exact h.2.1 q h1
  · rcases List.mem_append.mp hq with h1 | h1
    · exact h.2.2 q h1
    · rw [List.mem_singleton.mp h1]
      exact ha
theorem xAt.lt {D : va_G} {dA : FieldType → ClassId} {σ : xS} {R : xR} {k : Int} {H : Heap} (h : xAt D dA σ R k H) : (σ k).1 < H.size := by
  unfold xAt at h
  split at h
  · obtain ⟨r, -, cell, h1, -⟩ := h
    exact (Array.getElem?_eq_some_iff.mp h1).1
  · exact (Array.getElem?_eq_some_iff.mp h).1
/-- a region keeps its cell while its own shape, contents, cell and the addresses that it names stay -/
theorem xAt.kept {D : va_G} {dA : FieldType → ClassId} {σ σ' : xS} {R R' : xR} {k : Int} {H H1 : Heap} (h : xAt D dA σ R k H) (hσ : σ' k = σ k) (hR : R' k = R k)
    (hp : ∀ j, j < xns (σ k).2.1 (σ k).2.2 → ∀ c, xtg k (xkd (σ k).2.1 j) = some c → (σ' c).1 = (σ c).1) (hH : H1[(σ k).1]? = H[(σ k).1]?) : xAt D dA σ' R' k H1 := by
  have hv : ∀ j, j < xns (σ k).2.1 (σ k).2.2 → xV σ' k (xkd (σ k).2.1 j) (R k (j : Int)) = xV σ k (xkd (σ k).2.1 j) (R k (j : Int)) := by
    intro j hj
    have h1 := hp j hj
    generalize xkd (σ k).2.1 j = kd at h1 ⊢
    match kd with
    | 0 => rfl
    | 1 => rfl
    | 2 => rfl
    | 3 => exact congrArg Value.ref (h1 _ rfl)
    | n + 4 => exact congrArg Value.ref (h1 _ rfl)
  unfold xAt at h ⊢
  rw [hσ, hR]
  by_cases ht : (σ k).2.1 < 32
  · rw [if_pos ht] at h ⊢
    obtain ⟨r, h1, h2⟩ := h
    refine ⟨r, h1, (h2.kept hH).to (fun j hj => (hv j ?_).symm)⟩
    unfold xns
    rw [if_pos ht, h1]
    exact hj
  · rw [if_neg ht] at h ⊢
    rw [hH, h]
    congr 1
    unfold arrV
    congr 2
    funext j
    refine (hv j.val ?_).symm
    unfold xns
    rw [if_neg ht]
    exact j.isLt
-- ===== words =====
def xgd (w : Cond) : Bool := (w.onTables && w.keeps) || (match w with | .arrayClass _ => true | _ => false)
def xtb : List Cond := lw_tbl.filter xgd
theorem xgood {w : Cond} (h : w ∈ xtb) : w ∈ lw_tbl ∧ ((w.onTables && w.keeps) = true ∨ ∃ ty, w = .arrayClass ty) := by
  obtain ⟨h1, h2⟩ := List.mem_filter.mp h
  refine ⟨h1, ?_⟩
  unfold xgd at h2
  rcases Bool.or_eq_true_iff.mp h2 with h3 | h3
  · exact Or.inl h3
  · refine Or.inr ?_
    split at h3
    · exact ⟨_, rfl⟩
    · cases h3
theorem xin (i : Nat) {w : Cond} (h : tables_1[i]? = some w) (hg : xgd w = true) : w ∈ xtb := List.mem_filter.mpr ⟨List.mem_append_right _ (List.mem_of_getElem? h), hg⟩
theorem xins (i : Nat) {w : Cond} (h : (k2_sels lw_privs)[i]? = some w) (hg : xgd w = true) : w ∈ xtb := List.mem_filter.mpr ⟨List.mem_append_left _ (List.mem_of_getElem? h), hg⟩
abbrev xM : Type := MethodName × ByteArray × Nat × Option FieldType
abbrev xw (M : xM) : List Cond := Cond.code M.1 M.2.1 M.2.2.1 M.2.2.2 :: xtb
/-- what is known of classes, arrays and statics, at a state -/
def xG (D : va_G) (dA : FieldType → ClassId) (U : State) : Prop :=
  (∀ (c : Nat) (q : vw_C), xcl[c]? = some q → u_Kn U q.1 q.2.1 q.2.2 (D.1 c) (D.2 c)) ∧ ∀ ty ∈ xfts, ArrOfT U (dA ty) ty ∧ U.vm.findClass ("[" ++ ty.toString) = some (dA ty)
theorem xG.moved {D : va_G} {dA : FieldType → ClassId} {u U : State} (hvm : u.vm.Alike U.vm) (h : xG D dA u) : xG D dA U :=
  ⟨fun c q hq => u_Kn_moved hvm (h.1 c q hq), fun ty hty => ⟨arrOfT_moved hvm (h.2 ty hty).1, by rw [hvm.findClass]; exact (h.2 ty hty).2⟩⟩
/-- words that hold though they are not of the kind that every call keeps -/
def xwk (w : Cond) : Bool := match w with
  | .fieldLinkNest .. => true
  | .methodLinkNest .. => true
  | .castable .. => true
  | .declares .. => true
  | .privateMethod _ => true
  | .arrayOver (.object _) => true
  | .arrayOver (.array _) => true
  | .not (.castable ..) => true
  | _ => false
def xleaves : Cond → List Cond
  | .and a b => xleaves a ++ xleaves b
  | c => [c]
def xtw : List Cond := tables_1 ++ xleaves narrow_1
theorem xao {t : FieldType} {u U : State} (hvm : u.vm.Alike U.vm) (h : (Cond.arrayOver (.array t)).before #[] u = true) : (Cond.arrayOver (.array t)).before #[] U = true := by
  obtain ⟨comp, c, k, h1, h2, h3, h4, h5⟩ := arrayOverA_spec h
  obtain ⟨k', hk', he⟩ := hvm.2.2 _ _ h3
  have hi : (U.vm.classes.findIdx? fun (x : Class) => match x.kind with | .array component _ => component == comp | _ => false) = some c := by
    rw [hvm.findIdx?_eq _ (fun _ => rfl)]
    exact h2
  have hkind : k'.kind = .array comp (.array t) := by rw [he]; exact h4
  have f1 : U.vm.findClass (FieldType.array t).toString = some comp := by rw [hvm.findClass]; exact h1
  have f2 : U.vm.findClass ("[" ++ (FieldType.array t).toString) = some c := by rw [hvm.findClass]; exact h5
  unfold Cond.before Cond.holds
  simp only [Cond.value]
  rw [f1, Option.bind_some]
  refine (congrArg (fun o : Option Nat => (o.bind (fun c => (U.vm.classes[c]?).map fun (k : Class) => match k.kind with | .array _ ty => decide (ty = FieldType.array t) && decide (U.vm.findClass ("[" ++ (FieldType.array t).toString) = some c) | _ => false) == some true)) hi).trans ?_
  simp [hk', hkind, f2]
theorem xwk_warm {w : Cond} (hk : xwk w = true) {s U : State} (hW : s.WarmedH U.vm) (h : va_Nw w s) : va_Nw w U := by
  unfold xwk at hk
  split at hk
  · exact va_Nw.warmF hW h
  · exact va_Nw.warmM hW h
  · exact va_Nw.warmC hW h
  · exact va_Nw.warmD hW h
  · exact Cond.privateMethod_warm hW h
  · exact va_AO.moved hW.alike h
  · exact xao hW.alike h
  · have h2 := Cond.castAtom_setVm hW.alike _ rfl h
    simp only [va_Nw, Cond.before, Cond.holds, Cond.value] at h2 ⊢
    exact h2
  · cases hk
theorem xwk_same {w : Cond} (hk : xwk w = true) {u U : State} (hv : u.vm = U.vm) (h : va_Nw w u) : va_Nw w U := by
  unfold xwk at hk
  split at hk
  · exact va_tabs rfl hv h
  · exact va_tabs rfl hv h
  · exact va_tabs rfl hv h
  · exact va_tabs rfl hv h
  · simp only [va_Nw, Cond.before, Cond.holds, Cond.value] at h ⊢
    rw [← State.methodNamed?_of_vm hv, ← hv]
    exact h
  · exact va_AO.moved (by rw [hv]; exact Vm.Alike.refl _) h
  · exact xao (by rw [hv]; exact Vm.Alike.refl _) h
  · simp only [va_Nw, Cond.before, Cond.holds, Cond.value] at h ⊢
    rw [← hv]
    exact h
  · cases hk
/-- how a static of Throwable's is laid -/
def xLs (N0 : Nat) (n d : String) (U : State) : Prop := ∃ (c : ClassId) (k : Class) (i : Nat) (f : Field) (a : Nat) (cell : Cell), U.vm.findClass "java/lang/Throwable" = some c ∧ U.fieldFound? "java/lang/Throwable" n d = some (c, k, i, f) ∧ f.isStatic = true ∧ k.statics = some a ∧ U.heap[a]? = some cell ∧ cell.vm.isStatics = true ∧ cell.cls = c ∧ f.slot < cell.slots.size ∧ k.staticTypes[f.slot]? = some f.type ∧ a < N0
theorem xLs.moved {N0 : Nat} {n d : String} {u U : State} (hvm : u.vm.Alike U.vm) (hh : ∀ q : Nat, q < N0 → U.heap[q]? = u.heap[q]?) (h : xLs N0 n d u) : xLs N0 n d U := by
  obtain ⟨c, k, i, f, a, cell, h1, h2, h3, h4, h5, h6, h7, h8, h9, h10⟩ := h
  obtain ⟨k', hi', he⟩ := State.fieldFound?_setVm hvm h2
  exact ⟨c, k', i, f, a, cell, by rw [hvm.findClass]; exact h1, hi', h3, by rw [he]; exact h4, by rw [hh a h10]; exact h5, h6, h7, h8, by rw [he]; exact h9, h10⟩
theorem xLs.word {N0 : Nat} {n d : String} {U : State} {args : Array Value} (h : xLs N0 n d U) : (Cond.laysStatic "java/lang/Throwable" n d).before args U = true := by
  obtain ⟨c, k, i, f, a, cell, h1, h2, h3, h4, h5, h6, h7, h8, h9, h10⟩ := h
  simp [Cond.before, Cond.holds, Cond.value, h1, h2, h3, h4, h5, h6, h7, h8, h9]
/-- what is known of statics -/
def xT (l : Launch) (N0 : Nat) (dA : FieldType → ClassId) (U : State) : Prop := (l.flags = pinnedFlags ++ [noTraceFlag] ∧ xLs N0 "UNASSIGNED_STACK" "[Ljava/lang/StackTraceElement;" U ∧ xLs N0 "SUPPRESSED_SENTINEL" "Ljava/util/List;" U) ∧
  va_Z "java/util/ArrayList" "DEFAULTCAPACITY_EMPTY_ELEMENTDATA" "[Ljava/lang/Object;" (.ref (dA (xc 90))) (fun q => N0 ≤ q) U U.heap ∧
  va_T (.object "java/lang/Object") (dA (xc 90)) 0 (fun _ => .null) (fun q => N0 ≤ q) U U.heap ∧
  va_Z "java/lang/String" "COMPACT_STRINGS" "Z" (.int 1) (fun q => N0 ≤ q) U U.heap ∧
  va_Z "java/lang/Throwable" "UNASSIGNED_STACK" "[Ljava/lang/StackTraceElement;" (rz (dA (xc 91) : Int)) (fun q => N0 ≤ q) U U.heap ∧
  va_Z "java/lang/Throwable" "SUPPRESSED_SENTINEL" "Ljava/util/List;" (rz (dA (xc 92) : Int)) (fun q => N0 ≤ q) U U.heap ∧
  va_Z "jdk/internal/util/Preconditions" "SIOOBE_FORMATTER" "Ljava/util/function/BiFunction;" (rz (dA (xc 94) : Int)) (fun q => N0 ≤ q) U U.heap ∧
  va_Mi "[Ljava/lang/Object;" (dA (xc 93)) U ∧ ∀ w ∈ xtw, xwk w = true → va_Nw w U
theorem xT.moved {l : Launch} {N0 : Nat} {dA : FieldType → ClassId} {u U : State} (hvm : u.vm.Alike U.vm) (hh : ∀ q : Nat, q < N0 → U.heap[q]? = u.heap[q]?) (hw : ∀ w, xwk w = true → va_Nw w u → va_Nw w U) (h : xT l N0 dA u) : xT l N0 dA U := by
  obtain ⟨h0, h1, h2, h3, h4, h5, h5b, h6, h7⟩ := h
  have k : ∀ a : Nat, a < u.heap.size → ¬ N0 ≤ a → U.heap[a]? = u.heap[a]? := fun a _ ha => hh a (by omega)
  exact ⟨⟨h0.1, h0.2.1.moved hvm hh, h0.2.2.moved hvm hh⟩, (h1.moved hvm).kept k, (h2.moved hvm).kept k, (h3.moved hvm).kept k, (h4.moved hvm).kept k, (h5.moved hvm).kept k, (h5b.moved hvm).kept k, h6.moved hvm, fun w a b => hw w b (h7 w a b)⟩
-- ===== locals =====
def xL (ls : Array Slot) (nL : Nat) (L : List (Option Value)) : Prop := ls.size = nL ∧ lv_wf ls ∧ L.length = nL ∧ ∀ (i : Nat) (v : Value), L[i]? = some (some v) → ls[i]? = some (.val v)
def xprs (L : List (Option Value)) : List (Nat × Value) := (List.range L.length).filterMap (fun i => match L[i]? with | some (some v) => some (i, v) | _ => none)
theorem xprs_mem {L : List (Option Value)} {q : Nat × Value} : q ∈ xprs L ↔ L[q.1]? = some (some q.2) := by
  unfold xprs
  rw [List.mem_filterMap]
  constructor
  · rintro ⟨i, -, h⟩
    split at h
    · rename_i v hv
      cases h
      exact hv
    · cases h
  · intro h
    refine ⟨q.1, List.mem_range.mpr (List.getElem?_eq_some_iff.mp h).1, ?_⟩
    rw [h]
theorem xL.has {ls : Array Slot} {nL : Nat} {L : List (Option Value)} (h : xL ls nL L) : lv_has ls nL (xprs L) := ⟨h.1, h.2.1, fun q hq => h.2.2.2 q.1 q.2 (xprs_mem.mp hq)⟩
/-- no long ends at place i -/
def xo1 (L : List (Option Value)) (i : Nat) : Bool := match i with
  | 0 => true
  | i + 1 => (match L[i]? with
    | some (some v) => v.category == 1
    | _ => true)
theorem xL.st1 {ls ls' : Array Slot} {nL i : Nat} {v : Value} {L : List (Option Value)} (h : xL ls nL L) (ho : xo1 L i = true) (h' : lv_has ls' nL ((i, v) :: (xprs L).filter (fun q => !(q.1 == i) && !(q.1 + 1 == i && q.2.category == 2)))) : xL ls' nL (L.set i (some v)) := by
  refine ⟨h'.1, h'.2.1, by rw [List.length_set]; exact h.2.2.1, fun j w hj => ?_⟩
  by_cases hji : j = i
  · subst hji
    have hlt : j < L.length := by
      have := (List.getElem?_eq_some_iff.mp hj).1
      rwa [List.length_set] at this
    rw [List.getElem?_set_self hlt] at hj
    cases hj
    exact h'.2.2 (j, _) List.mem_cons_self
  · rw [List.getElem?_set_ne (fun q => hji q.symm)] at hj
    refine h'.2.2 (j, w) (List.mem_cons_of_mem _ (List.mem_filter.mpr ⟨xprs_mem.mpr hj, ?_⟩))
    simp only [Bool.and_eq_true, Bool.not_eq_true', beq_eq_false_iff_ne, ne_eq, Bool.and_eq_false_iff]
    refine ⟨hji, ?_⟩
    by_cases h1 : j + 1 = i
    · subst h1
      refine Or.inr ?_
      unfold xo1 at ho
      simp only [hj] at ho
      have h2 : w.category = 1 := by simpa using ho
      omega
    · exact Or.inl h1
def xarg (n : Nat) (av : List Value) : List (Option Value) := (List.range n).map (fun i => ((lv_args 0 av).find? (fun q => q.1 == i)).map (·.2))
theorem xL.entry {ls : Array Slot} {n : Nat} {av : List Value} (h : lv_has ls n (lv_args 0 av)) : xL ls n (xarg n av) := by
  refine ⟨h.1, h.2.1, by simp [xarg], fun i v hi => ?_⟩
  unfold xarg at hi
  rw [List.getElem?_map] at hi
  cases hr : (List.range n)[i]? with
  | none => rw [hr] at hi; cases hi
  | some j =>
    rw [hr] at hi
    have hj : j = i := by
      have := List.getElem?_eq_some_iff.mp hr
      obtain ⟨h1, h2⟩ := this
      rw [List.getElem_range] at h2
      exact h2.symm
    subst hj
    have h3 := Option.some.inj hi
    dsimp only at h3
    cases hf : (lv_args 0 av).find? (fun q => q.1 == j) with
    | none => rw [hf] at h3; cases h3
    | some q =>
      rw [hf] at h3
      have h4 : q.2 = v := Option.some.inj h3
      have h5 : (q.1 == j) = true := List.find?_some (p := fun q : Nat × Value => q.1 == j) hf
      have h6 : q.1 = j := by simpa using h5
      have h7 := h.2.2 q (List.mem_of_find?_eq_some hf)
      rw [h6, h4] at h7
      exact h7
