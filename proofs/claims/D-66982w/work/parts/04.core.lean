/-! the picture of the whole system: objects by number, arrays by number; the judgement V over it -/
abbrev Bs : Type := State × (Nat → ClassId) × (Nat → Nat → Nat) × (Nat → ClassId) × (Nat → Nat) × (Nat → Prop) × (Nat → Nat)
abbrev Bs.S (E : Bs) : State := E.1
abbrev Bs.dC (E : Bs) : Nat → ClassId := E.2.1
abbrev Bs.dI (E : Bs) : Nat → Nat → Nat := E.2.2.1
abbrev Bs.cA (E : Bs) : Nat → ClassId := E.2.2.2.1
abbrev Bs.o (E : Bs) : Nat → Nat := E.2.2.2.2.1
abbrev Bs.F (E : Bs) : Nat → Prop := E.2.2.2.2.2.1
abbrev Bs.st (E : Bs) : Nat → Nat := E.2.2.2.2.2.2
def fld (o ρ : Nat → Nat) (g : Nat → Nat → Int32) (tx : Value) (k f : Nat) : Value :=
  if kd k f = 0 then .int (g k f) else if kd k f < 50 then .ref (ρ (kd k f - 1)) else if kd k f < 60 then .ref (o (kd k f - 50)) else tx
def up2 (g : Nat → Nat → Int32) (k f : Nat) (v : Int32) : Nat → Nat → Int32 := fun a b => if a = k ∧ b = f then v else g a b
theorem up2_self {g : Nat → Nat → Int32} {k f : Nat} {v : Int32} : up2 g k f v k f = v := by simp [up2]
theorem up2_ne {g : Nat → Nat → Int32} {k f a b : Nat} {v : Int32} (h : ¬ (a = k ∧ b = f)) : up2 g k f v a b = g a b := by simp [up2, h]
theorem ta_lt (i : Nat) : ta i < 3 := by
  by_cases h : i < 42
  · have : ∀ i, i < 42 → ta i < 3 := by decide +kernel
    exact this i h
  · have : ta i = 0 := by
      show taL.getD i 0 = 0
      rw [List.getD_eq_getElem?_getD, List.getElem?_eq_none (by show 42 ≤ i; omega)]
      rfl
    omega
def aty (t : Nat) : FieldType := match t with
  | 0 => .int
  | 1 => .byte
  | 2 => .boolean
  | _ => .long
abbrev tyL (E : Bs) : List (ClassId × FieldType) := [(E.cA 0, .int), (E.cA 1, .byte), (E.cA 2, .boolean), (E.cA 3, .long)]
def Wd (E : Bs) (DO DA : Nat → Prop) (ρ : Nat → Nat) (g A : Nat → Nat → Int32) (n : Nat → Nat) (tx : Value) (H : Heap) : Prop :=
  (∀ k, DO k → k < 7 ∧ t_OB (E.o k) (E.dC k) (NF k) (E.dI k) H (fld E.o ρ g tx k) ∧ E.F (E.o k)) ∧
  (∀ i, DA i → H[ρ i]? = some (arrV (E.cA (ta i)) (n i) (fun j => .int (A i j))) ∧ E.F (ρ i) ∧ n i < 2147483648) ∧
  (∀ k k', DO k → DO k' → E.o k = E.o k' → k = k') ∧
  (∀ i j, DA i → DA j → ρ i = ρ j → i = j) ∧
  (∀ k i, DO k → DA i → E.o k ≠ ρ i)
abbrev Bel (E : Bs) (H : Heap) : Prop := (∀ q, q < E.S.heap.size → H[q]? = E.S.heap[q]?) ∧ E.S.heap.size ≤ H.size
-- the statics and the String constants
def snm : Nat → String := fun i => match i with
  | 0 => "TAKES"
  | 1 => "GROWS"
  | _ => "OPS"
def stL : List (List Int32) := [[0, 0, 1, 1, 2, 1, 1, 2, 2, 2, 0, 1, 1, 0, 1, 0, 1, 0, 1, 2, 3], [1, 1, -1, 0, -2, 0, 0, -1, -1, 0, 0, -1, -1, 0, -1, 0, 0, 0, 0, -1, -3], [0, 1, 3, 5, 6, 8, 9, 10, 11, 12, 13, 14, 15, 22, 19, 18, 17, 20, 21, 23, 24]]
def stv (i j : Nat) : Int32 := (stL.getD i []).getD j 0
def sL : List (String × Nat × String × List Int32) := [("RowCode$Generator", 82, "L", [76]), ("RowCode$Generator", 91, "LIL", [76, 73, 76]), ("RowCode$Generator", 99, "LIP", [76, 73, 80]), ("RowCode$Generator", 101, "LI", [76, 73]), ("RowCode$Generator", 103, "LP", [76, 80]), ("RowCode$Generator", 105, "LIQ", [76, 73, 81]), ("RowCode$Generator", 110, "SQ", [83, 81]), ("RowCode$Generator", 208, "SP", [83, 80]), ("RowCode$Generator", 210, "S", [83]), ("RowCode$Generator", 179, "X", [88]), ("RowCode$Generator", 215, "K", [75]), ("RowCode$Generator", 156, "D", [68]), ("RowCode$Generator", 187, "TL", [84, 76]), ("RowCode$Generator", 195, "JL", [74, 76]), ("RowCode$Generator", 154, "", []), ("RowCode$Generator", 197, "FL", [70, 76]), ("RowCode$Loader", 66, " LSJTFKX", [32, 76, 83, 74, 84, 70, 75, 88])]
abbrev slen : List Nat := sL.map (fun q => q.2.2.2.length)
abbrev sbyt : List (List Int32) := sL.map (fun q => q.2.2.2)
abbrev old (E : Bs) : Nat → Prop := fun q => E.S.heap.size ≤ q
def Sta (E : Bs) : Prop := (∀ i, i < 3 → va_Z "RowCode" (snm i) "[I" (.ref (E.st i)) (old E) E.S E.S.heap ∧ va_T .int (E.st i) 21 (fun j => .int (stv i j)) (old E) E.S E.S.heap) ∧
  va_Z "java/lang/String" "COMPACT_STRINGS" "Z" (.int 1) (old E) E.S E.S.heap ∧
  va_Zq "jdk/internal/util/Preconditions" "SIOOBE_FORMATTER" "Ljava/util/function/BiFunction;" (old E) E.S E.S.heap ∧
  va_Zq "java/lang/Throwable" "UNASSIGNED_STACK" "[Ljava/lang/StackTraceElement;" (old E) E.S E.S.heap ∧
  va_Zq "java/lang/Throwable" "SUPPRESSED_SENTINEL" "Ljava/util/List;" (old E) E.S E.S.heap
def Str (E : Bs) : Prop := vk_S 17 slen sbyt (fun i => E.st (10 + i)) (fun i => E.st (40 + i)) (old E) E.S E.S.heap ∧ ∀ i q, sL[i]? = some q → vk_R q.1 q.2.1 q.2.2.1 (E.st (10 + i)) E.S
def Hb (E : Bs) : Prop := (∃ a0 : Array Value, (∀ w ∈ lw_tbl, w.before a0 E.S = true) ∧ (Jvm.Cond.and given_1 narrow_1).before a0 E.S = true) ∧ va_K (E.dC, E.dI) classes (tyL E) E.S ∧ (∀ q, E.F q → E.S.heap.size ≤ q) ∧ Sta E ∧ Str E
/-- a method's surroundings -/
def Gd (E : Bs) (p : Program) (s : State) (m : MethodId) (args : Array Value) (meth : Method) (c : Code) (cc : ByteArray) (own : String) (nL : Nat) (ret : Option FieldType) : Prop :=
  p.tables.exec = Jvm.exec ∧ c.code = cc ∧ c.maxLocals = nL ∧ s.vm.findClass own = some m.cls ∧ meth.sig.returnType = ret ∧ meth.locks = false ∧ Hb E ∧ E.S.WarmedH s.vm ∧ Bel E s.heap ∧ (∀ q, s.heap.size ≤ q → E.F q)
def LH (ls : Array Slot) (nL : Nat) (L : List (Option Value)) : Prop := ls.size = nL ∧ lv_wf ls ∧ ∀ (i : Nat) (v : Value), L[i]? = some (some v) → ls[i]? = some (.val v)
def V (p : Program) (l : Launch) (e : Env) (R : Room) (s : State) (m : MethodId) (args : Array Value) (below : List Frame) (meth : Method) (c : Code) (nL : Nat) (X : Heap → List Loc → Prop) (cells slots : Nat) (Q : State → Prop) (pc : Nat) (L : List (Option Value)) (S : List Value) : Prop :=
  ∀ (H : Heap) (locs : List Loc) (ls : Array Slot), X H locs → LH ls nL L → W p l e R s m args below meth c H locs cells slots Q (F0 m pc ls S)
def Sy (E : Bs) (DO DA : Nat → Prop) (H0 : Heap) (ρ : Nat → Nat) (g A : Nat → Nat → Int32) (n : Nat → Nat) (tx : Value) : Heap → List Loc → Prop := fun H locs => Wd E DO DA ρ g A n tx H ∧ va_S E.F H0 H locs
/-- nothing of the heap has changed -/
def Pu (H0 : Heap) : Heap → List Loc → Prop := fun H locs => H = H0 ∧ locs = []
-- the locals
theorem LH.to {ls : Array Slot} {nL : Nat} {L L' : List (Option Value)} (h : LH ls nL L) (hL : ∀ (i : Nat) (v : Value), L'[i]? = some (some v) → L[i]? = some (some v)) : LH ls nL L' := ⟨h.1, h.2.1, fun i v hv => h.2.2 i v (hL i v hv)⟩
def asc : Nat → List (Option Value) → List (Nat × Value)
  | _, [] => []
  | k, none :: r => asc (k + 1) r
  | k, some v :: r => (k, v) :: asc (k + 1) r
theorem asc_mem : ∀ (L : List (Option Value)) (k : Nat) (q : Nat × Value), q ∈ asc k L ↔ ∃ i, q.1 = k + i ∧ L[i]? = some (some q.2)
  | [], k, q => by simp [asc]
  | none :: r, k, q => by
    rw [asc, asc_mem r (k + 1) q]
    constructor
    · rintro ⟨i, h1, h2⟩
      exact ⟨i + 1, by omega, by simpa using h2⟩
    · rintro ⟨i, h1, h2⟩
      cases i with
      | zero => simp at h2
      | succ i => exact ⟨i, by omega, by simpa using h2⟩
  | some v :: r, k, q => by
    rw [asc, List.mem_cons, asc_mem r (k + 1) q]
    constructor
    · rintro (h | ⟨i, h1, h2⟩)
      · exact ⟨0, by rw [h]; rfl, by rw [h]; rfl⟩
      · exact ⟨i + 1, by omega, by simpa using h2⟩
    · rintro ⟨i, h1, h2⟩
      cases i with
      | zero =>
        left
        simp at h2
        obtain ⟨a, b⟩ := q
        simp at h1 h2
        rw [h1, h2]
      | succ i => exact Or.inr ⟨i, by omega, by simpa using h2⟩
theorem LH.has {ls : Array Slot} {nL : Nat} {L : List (Option Value)} (h : LH ls nL L) : lv_has ls nL (asc 0 L) := by
  refine ⟨h.1, h.2.1, fun q hq => ?_⟩
  obtain ⟨i, h1, h2⟩ := (asc_mem L 0 q).mp hq
  rw [h1, Nat.zero_add]
  exact h.2.2 i q.2 h2
theorem LH.of {ls : Array Slot} {nL : Nat} {L : List (Option Value)} {l : List (Nat × Value)} (h : lv_has ls nL l) (hL : ∀ (i : Nat) (v : Value), L[i]? = some (some v) → (i, v) ∈ l) : LH ls nL L := ⟨h.1, h.2.1, fun i v hv => h.2.2 (i, v) (hL i v hv)⟩
/-- no long stands just below place i -/
def noL (L : List (Option Value)) (i : Nat) : Prop := ∀ j v, j + 1 = i → L[j]? = some (some v) → v.category = 1
theorem LH.st1 {ls : Array Slot} {nL : Nat} {L : List (Option Value)} {i : Nat} {v : Value} (h : LH ls nL L) (hi : i < nL) (hc : v.category = 1) (hn : noL L i) : ∃ ls', storeLocals ls i v = some ls' ∧ LH ls' nL (L.set i (some v)) := by
  obtain ⟨ls', e, h'⟩ := lv_store1 h.has hi hc
  refine ⟨ls', e, LH.of h' fun j w hj => ?_⟩
  by_cases hij : i = j
  · subst hij
    have hlt : i < L.length := by
      have := (List.getElem?_eq_some_iff.mp hj).1
      simpa using this
    rw [List.getElem?_set_self hlt] at hj
    cases hj
    exact List.mem_cons_self
  · rw [List.getElem?_set_ne hij] at hj
    refine List.mem_cons_of_mem _ (List.mem_filter.mpr ⟨(asc_mem L 0 (j, w)).mpr ⟨j, by simp, hj⟩, ?_⟩)
    have h1 : ¬ j = i := fun q => hij q.symm
    simp [h1]
    by_cases h2 : j + 1 = i
    · have := hn j w h2 hj
      omega
    · exact Or.inl h2
theorem LH.st2 {ls : Array Slot} {nL : Nat} {L : List (Option Value)} {i : Nat} {v : Value} (h : LH ls nL L) (hi : i + 1 < nL) (hc : v.category = 2) (hn : noL L i) : ∃ ls', storeLocals ls i v = some ls' ∧ LH ls' nL ((L.set i (some v)).set (i + 1) none) := by
  obtain ⟨ls', e, h'⟩ := lv_store2 h.has hi hc
  refine ⟨ls', e, LH.of h' fun j w hj => ?_⟩
  by_cases hij1 : i + 1 = j
  · subst hij1
    by_cases hlt : i + 1 < (L.set i (some v)).length
    · rw [List.getElem?_set_self hlt] at hj
      cases hj
    · rw [List.getElem?_eq_none (by simp at hlt ⊢; omega)] at hj
      cases hj
  · rw [List.getElem?_set_ne hij1] at hj
    by_cases hij : i = j
    · subst hij
      have hlt : i < L.length := by
        have := (List.getElem?_eq_some_iff.mp hj).1
        simpa using this
      rw [List.getElem?_set_self hlt] at hj
      cases hj
      exact List.mem_cons_self
    · rw [List.getElem?_set_ne hij] at hj
      refine List.mem_cons_of_mem _ (List.mem_filter.mpr ⟨(asc_mem L 0 (j, w)).mpr ⟨j, by simp, hj⟩, ?_⟩)
      have h1 : ¬ j = i := fun q => hij q.symm
      have h2 : ¬ j = i + 1 := fun q => hij1 q.symm
      simp [h1, h2]
      by_cases h3 : j + 1 = i
      · have := hn j w h3 hj
        omega
      · exact Or.inl h3
