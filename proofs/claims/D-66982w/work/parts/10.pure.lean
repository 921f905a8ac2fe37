/-! what instructions reckon: pure functions, and the contracts of the static methods -/
def bI (b : Bool) : Int32 := if b then 1 else 0
theorem bI_t {b : Bool} (h : b = true) : bI b = 1 := by rw [h]; rfl
theorem bI_f {b : Bool} (h : b = false) : bI b = 0 := by rw [h]; rfl
def shf (a b : Int32) (left : Bool) : Int32 := if b < 0 ∨ 31 < b then 0 else if left then a <<< (b &&& 31) else (a.toUInt32 >>> (b.toUInt32 &&& Int32.toUInt32 31)).toInt32
/-- an operator's value -/
def opr (k : Nat) (x y : Int32) : Int32 := match k with
  | 0 => x + y
  | 1 => x - y
  | 2 => x * y
  | 3 => x / y
  | 4 => x - x / y * y
  | 5 => x &&& y
  | 6 => x ||| y
  | 7 => (x ^^^ y) ^^^ (-1)
  | 8 => x ^^^ y
  | 9 => shf x y true
  | _ => shf x y false
/-- a relation -/
def rel (k : Nat) (x y : Int32) : Bool := match k with
  | 0 => decide (x = y)
  | 1 => !decide (x = y)
  | 2 => decide (x < y)
  | 3 => decide (x ≤ y)
  | 4 => decide (y < x)
  | _ => decide (y ≤ x)
def isW (t : Int) : Bool := decide (0 ≤ t ∧ t < 64)
/-- the word of byte y from address x on -/
def wAt (x y : Int32) : Int := x.toInt + (y >>> ((2 : Int32) &&& 31)).toInt
def grL : List Int32 := [1, 1, 1, -1, -1, 0, -2, 1, 0, 0, -1, -1, 0, 0, -1, -1, 0, 0, 0, -1, 0, 0, 0, -1, -3]
theorem lgc_lt (x y : Int64) : lg_cmp x y < 0 ↔ x < y := by
  unfold lg_cmp
  by_cases h1 : x > y
  · have : ¬ x < y := by rw [Int64.lt_iff_toInt_lt]; have := Int64.lt_iff_toInt_lt.mp h1; omega
    simp [h1, this]
  · by_cases h2 : x = y
    · subst h2
      have : ¬ x < x := by rw [Int64.lt_iff_toInt_lt]; omega
      simp [this]
    · have : x < y := by
        rw [Int64.lt_iff_toInt_lt]
        have h3 : ¬ y.toInt < x.toInt := fun z => h1 (Int64.lt_iff_toInt_lt.mpr z)
        have h4 : x.toInt ≠ y.toInt := fun z => h2 (Int64.toInt_inj.mp z)
        omega
      simp [h1, h2, this]
theorem lgc_ge (x y : Int64) : 0 ≤ lg_cmp x y ↔ y ≤ x := lg_cmp_ge x y
theorem lgc_le (x y : Int64) : lg_cmp x y ≤ 0 ↔ x ≤ y := by
  unfold lg_cmp
  by_cases h1 : x > y
  · have : ¬ x ≤ y := by rw [Int64.le_iff_toInt_le]; have := Int64.lt_iff_toInt_lt.mp h1; omega
    simp [h1, this]
  · have h3 : ¬ y.toInt < x.toInt := fun z => h1 (Int64.lt_iff_toInt_lt.mpr z)
    have : x ≤ y := by rw [Int64.le_iff_toInt_le]; omega
    by_cases h2 : x = y
    · simp [h2]
    · simp [h1, h2, this]
theorem i64_0 : (0 : Int64).toInt = 0 := rfl
theorem i64_64 : (64 : Int64).toInt = 64 := rfl
theorem i64_63 : (63 : Int64).toInt = 63 := rfl
theorem wAt_64 (x y : Int32) : (x.toInt64 + (y >>> ((2 : Int32) &&& 31)).toInt64).toInt = wAt x y := by
  have h1 := x.le_toInt; have h2 := x.toInt_lt
  have h3 := (y >>> ((2 : Int32) &&& 31)).le_toInt; have h4 := (y >>> ((2 : Int32) &&& 31)).toInt_lt
  rw [Int64.toInt_add, Int32.toInt_toInt64, Int32.toInt_toInt64, wAt]
  rw [Int.bmod_eq_of_le] <;> omega
theorem isW_nI {x : Int32} (h : isW x.toInt = true) : ∃ a : Nat, a < 64 ∧ x = nI a := by
  have h := of_decide_eq_true h
  refine ⟨x.toInt.toNat, by omega, Int32.toInt_inj.mp ?_⟩
  rw [nI_toInt (by omega)]
  omega
theorem div_m1 (x : Int32) : x / (-1) = -x := by
  apply Int32.toInt_inj.mp
  rw [Int32.toInt_div, show (-1 : Int32).toInt = -1 from rfl, Int32.toInt_neg x, Int.tdiv_neg, Int.tdiv_one]
theorem rem_m1 (x : Int32) : x - x / (-1) * (-1) = 0 := by
  rw [div_m1]
  grind
theorem i32_in {a b : Int32} (h : ¬ a < b) : b ≤ a := Int32.not_lt.mp h
theorem some_i {a b : Int32} (h : a = b) : (some (Value.int a) : Option Value) = some (Value.int b) := by rw [h]

set_option maxHeartbeats 4000000 in
theorem c_RC_shifted (l : Launch) {E : Bs} (hE : Hb E) {a b : Int32} (left : Bool) : CP l E y_RC_shifted b_RC_shifted 3 (some .int) ({ frames := 0, cells := 0, slots := 0, locals := 0 } : Room) [.int a, .int b, .int (bI left)] (fun r => r = some (.int (shf a b left))) := by
  refine CP.start0 [some (.int a), some (.int b), some (.int (bI left))] hE (by decide) (Nat.le_of_ble_eq_true rfl) rfl ?_
  intro p e s m args below meth c G
  refine v_iload_n G (decAt dd_RC_shifted 0 rfl) rfl ?_
  refine v_if_lt G 10 (decAt dd_RC_shifted 1 rfl) (by decide) (fun c1 => ?_) (fun c1 => ?_)
  · skip
    refine v_iconst G 0 (decAt dd_RC_shifted 5 rfl) (by decide) ?_
    refine v_goto G 27 (decAt dd_RC_shifted 6 rfl) (by decide) ?_
    exact p_iret G (decAt dd_RC_shifted 16 rfl) rfl (by first | (simp [shf, *]; done) | (unfold shf; rw [if_neg (fun z => z.elim c1 (fun q => absurd c7 (Int32.not_le.mpr q)))]; cases left <;> simp_all [bI]))
  · skip
    refine v_iload_n G (decAt dd_RC_shifted 2 rfl) rfl ?_
    refine v_bipush G 31 (decAt dd_RC_shifted 3 rfl) (by decide) ?_
    refine v_icmp_le G 14 (decAt dd_RC_shifted 4 rfl) (by decide) (fun c7 => ?_) (fun c7 => ?_)
    · skip
      refine v_iload_n G (decAt dd_RC_shifted 7 rfl) rfl ?_
      refine v_if_eq G 24 (decAt dd_RC_shifted 8 rfl) (by decide) (fun c15 => ?_) (fun c15 => ?_)
      · skip
        refine v_iload_n G (decAt dd_RC_shifted 13 rfl) rfl ?_
        refine v_iload_n G (decAt dd_RC_shifted 14 rfl) rfl ?_
        refine v_iushr G (decAt dd_RC_shifted 15 rfl) ?_
        exact p_iret G (decAt dd_RC_shifted 16 rfl) rfl (by first | (simp [shf, *]; done) | (unfold shf; rw [if_neg (fun z => z.elim c1 (fun q => absurd c7 (Int32.not_le.mpr q)))]; cases left <;> simp_all [bI]))
      · skip
        refine v_iload_n G (decAt dd_RC_shifted 9 rfl) rfl ?_
        refine v_iload_n G (decAt dd_RC_shifted 10 rfl) rfl ?_
        refine v_ishl G (decAt dd_RC_shifted 11 rfl) ?_
        refine v_goto G 27 (decAt dd_RC_shifted 12 rfl) (by decide) ?_
        exact p_iret G (decAt dd_RC_shifted 16 rfl) rfl (by first | (simp [shf, *]; done) | (unfold shf; rw [if_neg (fun z => z.elim c1 (fun q => absurd c7 (Int32.not_le.mpr q)))]; cases left <;> simp_all [bI]))
    · skip
      refine v_iconst G 0 (decAt dd_RC_shifted 5 rfl) (by decide) ?_
      refine v_goto G 27 (decAt dd_RC_shifted 6 rfl) (by decide) ?_
      exact p_iret G (decAt dd_RC_shifted 16 rfl) rfl (by first | (simp [shf, *]; done) | (unfold shf; rw [if_neg (fun z => z.elim c1 (fun q => absurd c7 (Int32.not_le.mpr q)))]; cases left <;> simp_all [bI]))
set_option maxHeartbeats 4000000 in
theorem c_RC_operated (l : Launch) {E : Bs} (hE : Hb E) {a b : Int32} {k : Nat} (hk : k ≤ 10) (hz : k = 3 ∨ k = 4 → ¬ b = 0) : CP l E y_RC_operated b_RC_operated 3 (some .int) ({ frames := 1, cells := 0, slots := 0, locals := 22 } : Room) [.int (nI k), .int a, .int b] (fun r => r = some (.int (opr k a b))) := by
  refine CP.start0 [some (.int (nI k)), some (.int a), some (.int b)] hE (by decide) (Nat.le_of_ble_eq_true rfl) rfl ?_
  intro p e s m args below meth c G
  rcases (show k = 0 ∨ k = 1 ∨ k = 2 ∨ k = 3 ∨ k = 4 ∨ k = 5 ∨ k = 6 ∨ k = 7 ∨ k = 8 ∨ k = 9 ∨ k = 10 by omega) with rfl | rfl | rfl | rfl | rfl | rfl | rfl | rfl | rfl | rfl | rfl
  · skip
    refine v_iload_n G (decAt dd_RC_operated 0 rfl) rfl ?_
    refine v_tswIn G 52 (decAt dd_RC_operated 1 rfl) (by decide) (by decide) rfl (by decide) ?_
    refine v_iload_n G (decAt dd_RC_operated 2 rfl) rfl ?_
    refine v_iload_n G (decAt dd_RC_operated 3 rfl) rfl ?_
    refine v_iadd G (decAt dd_RC_operated 4 rfl) ?_
    exact p_iret G (decAt dd_RC_operated 5 rfl) rfl rfl
  · skip
    refine v_iload_n G (decAt dd_RC_operated 0 rfl) rfl ?_
    refine v_tswIn G 56 (decAt dd_RC_operated 1 rfl) (by decide) (by decide) rfl (by decide) ?_
    refine v_iload_n G (decAt dd_RC_operated 6 rfl) rfl ?_
    refine v_iload_n G (decAt dd_RC_operated 7 rfl) rfl ?_
    refine v_isub G (decAt dd_RC_operated 8 rfl) ?_
    exact p_iret G (decAt dd_RC_operated 9 rfl) rfl rfl
  · skip
    refine v_iload_n G (decAt dd_RC_operated 0 rfl) rfl ?_
    refine v_tswIn G 60 (decAt dd_RC_operated 1 rfl) (by decide) (by decide) rfl (by decide) ?_
    refine v_iload_n G (decAt dd_RC_operated 10 rfl) rfl ?_
    refine v_iload_n G (decAt dd_RC_operated 11 rfl) rfl ?_
    refine v_imul G (decAt dd_RC_operated 12 rfl) ?_
    exact p_iret G (decAt dd_RC_operated 13 rfl) rfl rfl
  · skip
    refine v_iload_n G (decAt dd_RC_operated 0 rfl) rfl ?_
    refine v_tswIn G 64 (decAt dd_RC_operated 1 rfl) (by decide) (by decide) rfl (by decide) ?_
    refine v_iload_n G (decAt dd_RC_operated 14 rfl) rfl ?_
    refine v_iload_n G (decAt dd_RC_operated 15 rfl) rfl ?_
    refine v_idiv G (decAt dd_RC_operated 16 rfl) (hz (Or.inl rfl)) ?_
    exact p_iret G (decAt dd_RC_operated 17 rfl) rfl rfl
  · skip
    refine v_iload_n G (decAt dd_RC_operated 0 rfl) rfl ?_
    refine v_tswIn G 68 (decAt dd_RC_operated 1 rfl) (by decide) (by decide) rfl (by decide) ?_
    refine v_iload_n G (decAt dd_RC_operated 18 rfl) rfl ?_
    refine v_iload_n G (decAt dd_RC_operated 19 rfl) rfl ?_
    refine v_irem G (decAt dd_RC_operated 20 rfl) (hz (Or.inr rfl)) ?_
    exact p_iret G (decAt dd_RC_operated 21 rfl) rfl rfl
  · skip
    refine v_iload_n G (decAt dd_RC_operated 0 rfl) rfl ?_
    refine v_tswIn G 72 (decAt dd_RC_operated 1 rfl) (by decide) (by decide) rfl (by decide) ?_
    refine v_iload_n G (decAt dd_RC_operated 22 rfl) rfl ?_
    refine v_iload_n G (decAt dd_RC_operated 23 rfl) rfl ?_
    refine v_iand G (decAt dd_RC_operated 24 rfl) ?_
    exact p_iret G (decAt dd_RC_operated 25 rfl) rfl rfl
  · skip
    refine v_iload_n G (decAt dd_RC_operated 0 rfl) rfl ?_
    refine v_tswIn G 76 (decAt dd_RC_operated 1 rfl) (by decide) (by decide) rfl (by decide) ?_
    refine v_iload_n G (decAt dd_RC_operated 26 rfl) rfl ?_
    refine v_iload_n G (decAt dd_RC_operated 27 rfl) rfl ?_
    refine v_ior G (decAt dd_RC_operated 28 rfl) ?_
    exact p_iret G (decAt dd_RC_operated 29 rfl) rfl rfl
  · skip
    refine v_iload_n G (decAt dd_RC_operated 0 rfl) rfl ?_
    refine v_tswIn G 80 (decAt dd_RC_operated 1 rfl) (by decide) (by decide) rfl (by decide) ?_
    refine v_iload_n G (decAt dd_RC_operated 30 rfl) rfl ?_
    refine v_iload_n G (decAt dd_RC_operated 31 rfl) rfl ?_
    refine v_ixor G (decAt dd_RC_operated 32 rfl) ?_
    refine v_iconst G (-1) (decAt dd_RC_operated 33 rfl) (by decide) ?_
    refine v_ixor G (decAt dd_RC_operated 34 rfl) ?_
    exact p_iret G (decAt dd_RC_operated 35 rfl) rfl rfl
  · skip
    refine v_iload_n G (decAt dd_RC_operated 0 rfl) rfl ?_
    refine v_tswIn G 86 (decAt dd_RC_operated 1 rfl) (by decide) (by decide) rfl (by decide) ?_
    refine v_iload_n G (decAt dd_RC_operated 36 rfl) rfl ?_
    refine v_iload_n G (decAt dd_RC_operated 37 rfl) rfl ?_
    refine v_ixor G (decAt dd_RC_operated 38 rfl) ?_
    exact p_iret G (decAt dd_RC_operated 39 rfl) rfl rfl
  · skip
    refine v_iload_n G (decAt dd_RC_operated 0 rfl) rfl ?_
    refine v_tswOut G 90 (decAt dd_RC_operated 1 rfl) (by decide) (by decide) ?_
    refine v_iload_n G (decAt dd_RC_operated 40 rfl) rfl ?_
    refine v_iload_n G (decAt dd_RC_operated 41 rfl) rfl ?_
    refine v_iload_n G (decAt dd_RC_operated 42 rfl) rfl ?_
    refine v_bipush G 9 (decAt dd_RC_operated 43 rfl) (by decide) ?_
    refine v_icmp_ne G 102 (decAt dd_RC_operated 44 rfl) (by decide) (fun c95 => ?_) (fun c95 => ?_)
    · skip
      exact absurd rfl c95
    · skip
      refine v_iconst G 1 (decAt dd_RC_operated 45 rfl) (by decide) ?_
      refine v_goto G 103 (decAt dd_RC_operated 46 rfl) (by decide) ?_
      refine p_callSi G (XB_Pu G) (As := [.int a, .int b, .int (bI true)]) (decAt dd_RC_operated 48 rfl) k_RC_1 (c_RC_shifted l hE true) rfl rfl (by decide) (by decide) rfl rfl (by decide) ?_
      exact p_iret G (decAt dd_RC_operated 49 rfl) rfl rfl
  · skip
    refine v_iload_n G (decAt dd_RC_operated 0 rfl) rfl ?_
    refine v_tswOut G 90 (decAt dd_RC_operated 1 rfl) (by decide) (by decide) ?_
    refine v_iload_n G (decAt dd_RC_operated 40 rfl) rfl ?_
    refine v_iload_n G (decAt dd_RC_operated 41 rfl) rfl ?_
    refine v_iload_n G (decAt dd_RC_operated 42 rfl) rfl ?_
    refine v_bipush G 9 (decAt dd_RC_operated 43 rfl) (by decide) ?_
    refine v_icmp_ne G 102 (decAt dd_RC_operated 44 rfl) (by decide) (fun c95 => ?_) (fun c95 => ?_)
    · skip
      refine v_iconst G 0 (decAt dd_RC_operated 47 rfl) (by decide) ?_
      refine p_callSi G (XB_Pu G) (As := [.int a, .int b, .int (bI false)]) (decAt dd_RC_operated 48 rfl) k_RC_1 (c_RC_shifted l hE false) rfl rfl (by decide) (by decide) rfl rfl (by decide) ?_
      exact p_iret G (decAt dd_RC_operated 49 rfl) rfl rfl
    · skip
      exact absurd c95 (by decide)
set_option maxHeartbeats 4000000 in
theorem c_RC_holds (l : Launch) {E : Bs} (hE : Hb E) {a b : Int32} {k : Nat} (hk : k ≤ 5) : CP l E y_RC_holds b_RC_holds 3 (some .boolean) ({ frames := 0, cells := 0, slots := 0, locals := 0 } : Room) [.int (nI k), .int a, .int b] (fun r => r = some (.int (bI (rel k a b)))) := by
  refine CP.start0 [some (.int (nI k)), some (.int a), some (.int b)] hE (by decide) (Nat.le_of_ble_eq_true rfl) rfl ?_
  intro p e s m args below meth c G
  rcases (show k = 0 ∨ k = 1 ∨ k = 2 ∨ k = 3 ∨ k = 4 ∨ k = 5 by omega) with rfl | rfl | rfl | rfl | rfl | rfl
  · skip
    refine v_iload_n G (decAt dd_RC_holds 0 rfl) rfl ?_
    refine v_tswIn G 36 (decAt dd_RC_holds 1 rfl) (by decide) (by decide) rfl (by decide) ?_
    refine v_iload_n G (decAt dd_RC_holds 2 rfl) rfl ?_
    refine v_iload_n G (decAt dd_RC_holds 3 rfl) rfl ?_
    refine v_icmp_ne G 45 (decAt dd_RC_holds 4 rfl) (by decide) (fun c38 => ?_) (fun c38 => ?_)
    · skip
      refine v_iconst G 0 (decAt dd_RC_holds 7 rfl) (by decide) ?_
      exact p_zret G (decAt dd_RC_holds 8 rfl) rfl rfl (by simp_all [rel, bI])
    · skip
      refine v_iconst G 1 (decAt dd_RC_holds 5 rfl) (by decide) ?_
      refine v_goto G 46 (decAt dd_RC_holds 6 rfl) (by decide) ?_
      exact p_zret G (decAt dd_RC_holds 8 rfl) rfl rfl (by simp_all [rel, bI])
  · skip
    refine v_iload_n G (decAt dd_RC_holds 0 rfl) rfl ?_
    refine v_tswIn G 47 (decAt dd_RC_holds 1 rfl) (by decide) (by decide) rfl (by decide) ?_
    refine v_iload_n G (decAt dd_RC_holds 9 rfl) rfl ?_
    refine v_iload_n G (decAt dd_RC_holds 10 rfl) rfl ?_
    refine v_icmp_eq G 56 (decAt dd_RC_holds 11 rfl) (by decide) (fun c49 => ?_) (fun c49 => ?_)
    · skip
      refine v_iconst G 0 (decAt dd_RC_holds 14 rfl) (by decide) ?_
      exact p_zret G (decAt dd_RC_holds 15 rfl) rfl rfl (by simp_all [rel, bI])
    · skip
      refine v_iconst G 1 (decAt dd_RC_holds 12 rfl) (by decide) ?_
      refine v_goto G 57 (decAt dd_RC_holds 13 rfl) (by decide) ?_
      exact p_zret G (decAt dd_RC_holds 15 rfl) rfl rfl (by simp_all [rel, bI])
  · skip
    refine v_iload_n G (decAt dd_RC_holds 0 rfl) rfl ?_
    refine v_tswIn G 58 (decAt dd_RC_holds 1 rfl) (by decide) (by decide) rfl (by decide) ?_
    refine v_iload_n G (decAt dd_RC_holds 16 rfl) rfl ?_
    refine v_iload_n G (decAt dd_RC_holds 17 rfl) rfl ?_
    refine v_icmp_ge G 67 (decAt dd_RC_holds 18 rfl) (by decide) (fun c60 => ?_) (fun c60 => ?_)
    · skip
      refine v_iconst G 0 (decAt dd_RC_holds 21 rfl) (by decide) ?_
      exact p_zret G (decAt dd_RC_holds 22 rfl) rfl rfl (by simp_all [rel, bI])
    · skip
      refine v_iconst G 1 (decAt dd_RC_holds 19 rfl) (by decide) ?_
      refine v_goto G 68 (decAt dd_RC_holds 20 rfl) (by decide) ?_
      exact p_zret G (decAt dd_RC_holds 22 rfl) rfl rfl (by simp_all [rel, bI])
  · skip
    refine v_iload_n G (decAt dd_RC_holds 0 rfl) rfl ?_
    refine v_tswIn G 69 (decAt dd_RC_holds 1 rfl) (by decide) (by decide) rfl (by decide) ?_
    refine v_iload_n G (decAt dd_RC_holds 23 rfl) rfl ?_
    refine v_iload_n G (decAt dd_RC_holds 24 rfl) rfl ?_
    refine v_icmp_gt G 78 (decAt dd_RC_holds 25 rfl) (by decide) (fun c71 => ?_) (fun c71 => ?_)
    · skip
      refine v_iconst G 0 (decAt dd_RC_holds 28 rfl) (by decide) ?_
      exact p_zret G (decAt dd_RC_holds 29 rfl) rfl rfl (by simp_all [rel, bI])
    · skip
      refine v_iconst G 1 (decAt dd_RC_holds 26 rfl) (by decide) ?_
      refine v_goto G 79 (decAt dd_RC_holds 27 rfl) (by decide) ?_
      exact p_zret G (decAt dd_RC_holds 29 rfl) rfl rfl (by simp_all [rel, bI])
  · skip
    refine v_iload_n G (decAt dd_RC_holds 0 rfl) rfl ?_
    refine v_tswIn G 80 (decAt dd_RC_holds 1 rfl) (by decide) (by decide) rfl (by decide) ?_
    refine v_iload_n G (decAt dd_RC_holds 30 rfl) rfl ?_
    refine v_iload_n G (decAt dd_RC_holds 31 rfl) rfl ?_
    refine v_icmp_le G 89 (decAt dd_RC_holds 32 rfl) (by decide) (fun c82 => ?_) (fun c82 => ?_)
    · skip
      refine v_iconst G 0 (decAt dd_RC_holds 35 rfl) (by decide) ?_
      exact p_zret G (decAt dd_RC_holds 36 rfl) rfl rfl (by simp_all [rel, bI])
    · skip
      refine v_iconst G 1 (decAt dd_RC_holds 33 rfl) (by decide) ?_
      refine v_goto G 90 (decAt dd_RC_holds 34 rfl) (by decide) ?_
      exact p_zret G (decAt dd_RC_holds 36 rfl) rfl rfl (by simp_all [rel, bI])
  · skip
    refine v_iload_n G (decAt dd_RC_holds 0 rfl) rfl ?_
    refine v_tswOut G 91 (decAt dd_RC_holds 1 rfl) (by decide) (by decide) ?_
    refine v_iload_n G (decAt dd_RC_holds 37 rfl) rfl ?_
    refine v_iload_n G (decAt dd_RC_holds 38 rfl) rfl ?_
    refine v_icmp_lt G 100 (decAt dd_RC_holds 39 rfl) (by decide) (fun c93 => ?_) (fun c93 => ?_)
    · skip
      refine v_iconst G 0 (decAt dd_RC_holds 42 rfl) (by decide) ?_
      exact p_zret G (decAt dd_RC_holds 43 rfl) rfl rfl (by simp_all [rel, bI])
    · skip
      refine v_iconst G 1 (decAt dd_RC_holds 40 rfl) (by decide) ?_
      refine v_goto G 101 (decAt dd_RC_holds 41 rfl) (by decide) ?_
      exact p_zret G (decAt dd_RC_holds 43 rfl) rfl rfl (by simp_all [rel, bI])
set_option maxHeartbeats 4000000 in
theorem c_MD_compares (l : Launch) {E : Bs} (hE : Hb E) {a b : Int32} {k : Nat} (hk : k ≤ 5) : CP l E y_MD_compares b_MD_compares 3 (some .boolean) ({ frames := 0, cells := 0, slots := 0, locals := 0 } : Room) [.int (nI k), .int a, .int b] (fun r => r = some (.int (bI (rel k a b)))) := by
  refine CP.start0 [some (.int (nI k)), some (.int a), some (.int b)] hE (by decide) (Nat.le_of_ble_eq_true rfl) rfl ?_
  intro p e s m args below meth c G
  rcases (show k = 0 ∨ k = 1 ∨ k = 2 ∨ k = 3 ∨ k = 4 ∨ k = 5 by omega) with rfl | rfl | rfl | rfl | rfl | rfl
  · skip
    refine v_iload_n G (decAt dd_MD_compares 0 rfl) rfl ?_
    refine v_tswIn G 36 (decAt dd_MD_compares 1 rfl) (by decide) (by decide) rfl (by decide) ?_
    refine v_iload_n G (decAt dd_MD_compares 2 rfl) rfl ?_
    refine v_iload_n G (decAt dd_MD_compares 3 rfl) rfl ?_
    refine v_icmp_ne G 45 (decAt dd_MD_compares 4 rfl) (by decide) (fun c38 => ?_) (fun c38 => ?_)
    · skip
      refine v_iconst G 0 (decAt dd_MD_compares 7 rfl) (by decide) ?_
      exact p_zret G (decAt dd_MD_compares 8 rfl) rfl rfl (by simp_all [rel, bI])
    · skip
      refine v_iconst G 1 (decAt dd_MD_compares 5 rfl) (by decide) ?_
      refine v_goto G 46 (decAt dd_MD_compares 6 rfl) (by decide) ?_
      exact p_zret G (decAt dd_MD_compares 8 rfl) rfl rfl (by simp_all [rel, bI])
  · skip
    refine v_iload_n G (decAt dd_MD_compares 0 rfl) rfl ?_
    refine v_tswIn G 47 (decAt dd_MD_compares 1 rfl) (by decide) (by decide) rfl (by decide) ?_
    refine v_iload_n G (decAt dd_MD_compares 9 rfl) rfl ?_
    refine v_iload_n G (decAt dd_MD_compares 10 rfl) rfl ?_
    refine v_icmp_eq G 56 (decAt dd_MD_compares 11 rfl) (by decide) (fun c49 => ?_) (fun c49 => ?_)
    · skip
      refine v_iconst G 0 (decAt dd_MD_compares 14 rfl) (by decide) ?_
      exact p_zret G (decAt dd_MD_compares 15 rfl) rfl rfl (by simp_all [rel, bI])
    · skip
      refine v_iconst G 1 (decAt dd_MD_compares 12 rfl) (by decide) ?_
      refine v_goto G 57 (decAt dd_MD_compares 13 rfl) (by decide) ?_
      exact p_zret G (decAt dd_MD_compares 15 rfl) rfl rfl (by simp_all [rel, bI])
  · skip
    refine v_iload_n G (decAt dd_MD_compares 0 rfl) rfl ?_
    refine v_tswIn G 58 (decAt dd_MD_compares 1 rfl) (by decide) (by decide) rfl (by decide) ?_
    refine v_iload_n G (decAt dd_MD_compares 16 rfl) rfl ?_
    refine v_iload_n G (decAt dd_MD_compares 17 rfl) rfl ?_
    refine v_icmp_ge G 67 (decAt dd_MD_compares 18 rfl) (by decide) (fun c60 => ?_) (fun c60 => ?_)
    · skip
      refine v_iconst G 0 (decAt dd_MD_compares 21 rfl) (by decide) ?_
      exact p_zret G (decAt dd_MD_compares 22 rfl) rfl rfl (by simp_all [rel, bI])
    · skip
      refine v_iconst G 1 (decAt dd_MD_compares 19 rfl) (by decide) ?_
      refine v_goto G 68 (decAt dd_MD_compares 20 rfl) (by decide) ?_
      exact p_zret G (decAt dd_MD_compares 22 rfl) rfl rfl (by simp_all [rel, bI])
  · skip
    refine v_iload_n G (decAt dd_MD_compares 0 rfl) rfl ?_
    refine v_tswIn G 69 (decAt dd_MD_compares 1 rfl) (by decide) (by decide) rfl (by decide) ?_
    refine v_iload_n G (decAt dd_MD_compares 23 rfl) rfl ?_
    refine v_iload_n G (decAt dd_MD_compares 24 rfl) rfl ?_
    refine v_icmp_gt G 78 (decAt dd_MD_compares 25 rfl) (by decide) (fun c71 => ?_) (fun c71 => ?_)
    · skip
      refine v_iconst G 0 (decAt dd_MD_compares 28 rfl) (by decide) ?_
      exact p_zret G (decAt dd_MD_compares 29 rfl) rfl rfl (by simp_all [rel, bI])
    · skip
      refine v_iconst G 1 (decAt dd_MD_compares 26 rfl) (by decide) ?_
      refine v_goto G 79 (decAt dd_MD_compares 27 rfl) (by decide) ?_
      exact p_zret G (decAt dd_MD_compares 29 rfl) rfl rfl (by simp_all [rel, bI])
  · skip
    refine v_iload_n G (decAt dd_MD_compares 0 rfl) rfl ?_
    refine v_tswIn G 80 (decAt dd_MD_compares 1 rfl) (by decide) (by decide) rfl (by decide) ?_
    refine v_iload_n G (decAt dd_MD_compares 30 rfl) rfl ?_
    refine v_iload_n G (decAt dd_MD_compares 31 rfl) rfl ?_
    refine v_icmp_le G 89 (decAt dd_MD_compares 32 rfl) (by decide) (fun c82 => ?_) (fun c82 => ?_)
    · skip
      refine v_iconst G 0 (decAt dd_MD_compares 35 rfl) (by decide) ?_
      exact p_zret G (decAt dd_MD_compares 36 rfl) rfl rfl (by simp_all [rel, bI])
    · skip
      refine v_iconst G 1 (decAt dd_MD_compares 33 rfl) (by decide) ?_
      refine v_goto G 90 (decAt dd_MD_compares 34 rfl) (by decide) ?_
      exact p_zret G (decAt dd_MD_compares 36 rfl) rfl rfl (by simp_all [rel, bI])
  · skip
    refine v_iload_n G (decAt dd_MD_compares 0 rfl) rfl ?_
    refine v_tswOut G 91 (decAt dd_MD_compares 1 rfl) (by decide) (by decide) ?_
    refine v_iload_n G (decAt dd_MD_compares 37 rfl) rfl ?_
    refine v_iload_n G (decAt dd_MD_compares 38 rfl) rfl ?_
    refine v_icmp_lt G 100 (decAt dd_MD_compares 39 rfl) (by decide) (fun c93 => ?_) (fun c93 => ?_)
    · skip
      refine v_iconst G 0 (decAt dd_MD_compares 42 rfl) (by decide) ?_
      exact p_zret G (decAt dd_MD_compares 43 rfl) rfl rfl (by simp_all [rel, bI])
    · skip
      refine v_iconst G 1 (decAt dd_MD_compares 40 rfl) (by decide) ?_
      refine v_goto G 101 (decAt dd_MD_compares 41 rfl) (by decide) ?_
      exact p_zret G (decAt dd_MD_compares 43 rfl) rfl rfl (by simp_all [rel, bI])
set_option maxHeartbeats 4000000 in
theorem c_RC_isWord (l : Launch) {E : Bs} (hE : Hb E) {x : Int64} : CP l E y_RC_isWord b_RC_isWord 2 (some .boolean) ({ frames := 0, cells := 0, slots := 0, locals := 0 } : Room) [.long x] (fun r => r = some (.int (bI (isW x.toInt)))) := by
  refine CP.start0 [some (.long x), none] hE (by decide) (Nat.le_of_ble_eq_true rfl) rfl ?_
  intro p e s m args below meth c G
  refine v_lload_n G (decAt dd_RC_isWord 0 rfl) rfl ?_
  refine v_lconst G 0 (decAt dd_RC_isWord 1 rfl) (by decide) ?_
  refine v_lcmp G (decAt dd_RC_isWord 2 rfl) ?_
  refine v_if_lt G 18 (decAt dd_RC_isWord 3 rfl) (by decide) (fun c3 => ?_) (fun c3 => ?_)
  · skip
    have c3 := Int64.lt_iff_toInt_lt.mp ((lgc_lt _ _).mp c3)
    rw [i64_0] at c3
    refine v_iconst G 0 (decAt dd_RC_isWord 10 rfl) (by decide) ?_
    exact p_zret G (decAt dd_RC_isWord 11 rfl) rfl rfl (some_i (by first | exact (bI_t (decide_eq_true ⟨by omega, by omega⟩)).symm | exact (bI_f (decide_eq_false (fun z => by omega))).symm))
  · skip
    refine v_lload_n G (decAt dd_RC_isWord 4 rfl) rfl ?_
    refine v_ldc2 G (decAt dd_RC_isWord 5 rfl) tm_647 ?_
    refine v_lcmp G (decAt dd_RC_isWord 6 rfl) ?_
    refine v_if_ge G 18 (decAt dd_RC_isWord 7 rfl) (by decide) (fun c11 => ?_) (fun c11 => ?_)
    · skip
      have c11 := Int64.le_iff_toInt_le.mp ((lgc_ge _ _).mp c11)
      rw [i64_64] at c11
      refine v_iconst G 0 (decAt dd_RC_isWord 10 rfl) (by decide) ?_
      exact p_zret G (decAt dd_RC_isWord 11 rfl) rfl rfl (some_i (by first | exact (bI_t (decide_eq_true ⟨by omega, by omega⟩)).symm | exact (bI_f (decide_eq_false (fun z => by omega))).symm))
    · skip
      have c3 : ¬ x.toInt < 0 := fun z => c3 ((lgc_lt _ _).mpr (Int64.lt_iff_toInt_lt.mpr z))
      have c11 : ¬ 64 ≤ x.toInt := fun z => c11 ((lgc_ge _ _).mpr (Int64.le_iff_toInt_le.mpr z))
      refine v_iconst G 1 (decAt dd_RC_isWord 8 rfl) (by decide) ?_
      refine v_goto G 19 (decAt dd_RC_isWord 9 rfl) (by decide) ?_
      exact p_zret G (decAt dd_RC_isWord 11 rfl) rfl rfl (some_i (by first | exact (bI_t (decide_eq_true ⟨by omega, by omega⟩)).symm | exact (bI_f (decide_eq_false (fun z => by omega))).symm))
set_option maxHeartbeats 4000000 in
theorem c_MD_in (l : Launch) {E : Bs} (hE : Hb E) {x lo hi : Int32} : CP l E y_MD_in b_MD_in 3 (some .boolean) ({ frames := 0, cells := 0, slots := 0, locals := 0 } : Room) [.int x, .int lo, .int hi] (fun r => r = some (.int (bI (decide (lo ≤ x ∧ x ≤ hi))))) := by
  refine CP.start0 [some (.int x), some (.int lo), some (.int hi)] hE (by decide) (Nat.le_of_ble_eq_true rfl) rfl ?_
  intro p e s m args below meth c G
  refine v_iload_n G (decAt dd_MD_in 0 rfl) rfl ?_
  refine v_iload_n G (decAt dd_MD_in 1 rfl) rfl ?_
  refine v_icmp_lt G 14 (decAt dd_MD_in 2 rfl) (by decide) (fun c2 => ?_) (fun c2 => ?_)
  · skip
    refine v_iconst G 0 (decAt dd_MD_in 8 rfl) (by decide) ?_
    exact p_zret G (decAt dd_MD_in 9 rfl) rfl rfl (some_i (by first | exact (bI_t (decide_eq_true ⟨i32_in c2, i32_in c7⟩)).symm | exact (bI_f (decide_eq_false (fun z => absurd c2 (Int32.not_lt.mpr z.1)))).symm | exact (bI_f (decide_eq_false (fun z => absurd c7 (Int32.not_lt.mpr z.2)))).symm))
  · skip
    refine v_iload_n G (decAt dd_MD_in 3 rfl) rfl ?_
    refine v_iload_n G (decAt dd_MD_in 4 rfl) rfl ?_
    refine v_icmp_gt G 14 (decAt dd_MD_in 5 rfl) (by decide) (fun c7 => ?_) (fun c7 => ?_)
    · skip
      refine v_iconst G 0 (decAt dd_MD_in 8 rfl) (by decide) ?_
      exact p_zret G (decAt dd_MD_in 9 rfl) rfl rfl (some_i (by first | exact (bI_t (decide_eq_true ⟨i32_in c2, i32_in c7⟩)).symm | exact (bI_f (decide_eq_false (fun z => absurd c2 (Int32.not_lt.mpr z.1)))).symm | exact (bI_f (decide_eq_false (fun z => absurd c7 (Int32.not_lt.mpr z.2)))).symm))
    · skip
      refine v_iconst G 1 (decAt dd_MD_in 6 rfl) (by decide) ?_
      refine v_goto G 15 (decAt dd_MD_in 7 rfl) (by decide) ?_
      exact p_zret G (decAt dd_MD_in 9 rfl) rfl rfl (some_i (by first | exact (bI_t (decide_eq_true ⟨i32_in c2, i32_in c7⟩)).symm | exact (bI_f (decide_eq_false (fun z => absurd c2 (Int32.not_lt.mpr z.1)))).symm | exact (bI_f (decide_eq_false (fun z => absurd c7 (Int32.not_lt.mpr z.2)))).symm))
/-- whether an instruction is good, told of it alone -/
def good1 (x a : Int32) : Bool := if x = 1 ∨ x = 2 then decide (0 ≤ a ∧ a ≤ 15) else if x = 7 then decide (0 ≤ a ∧ a ≤ 10) else if x = 8 ∨ x = 9 then decide (0 ≤ a ∧ a ≤ 5) else if x = 10 ∨ x = 11 ∨ x = 12 ∨ x = 13 then decide (0 ≤ a ∧ a ≤ 99) else decide (0 ≤ x ∧ x ≤ 20)
set_option maxHeartbeats 4000000 in
theorem c_MD_isGood (l : Launch) {E : Bs} (hE : Hb E) {x a : Int32} : CP l E y_MD_isGood b_MD_isGood 2 (some .boolean) ({ frames := 1, cells := 0, slots := 0, locals := 22 } : Room) [.int x, .int a] (fun r => r = some (.int (bI (good1 x a)))) := by
  refine CP.start0 [some (.int x), some (.int a)] hE (by decide) (Nat.le_of_ble_eq_true rfl) rfl ?_
  intro p e s m args below meth c G
  rcases sw_cases x 1 13 (by omega) with hs | ⟨k, hk1, hk2, rfl⟩
  · skip
    refine v_iload_n G (decAt dd_MD_isGood 0 rfl) rfl ?_
    refine v_tswOut G 99 (decAt dd_MD_isGood 1 rfl) hs (by decide) ?_
    refine v_iload_n G (decAt dd_MD_isGood 22 rfl) rfl ?_
    refine v_iconst G 0 (decAt dd_MD_isGood 23 rfl) (by decide) ?_
    refine v_bipush G 20 (decAt dd_MD_isGood 24 rfl) (by decide) ?_
    refine p_callSi G (XB_Pu G) (As := [.int x, .int 0, .int 20]) (decAt dd_MD_isGood 25 rfl) k_MD_39 (c_MD_in l hE) rfl rfl (by decide) (by decide) rfl rfl (by decide) ?_
    exact p_zret G (decAt dd_MD_isGood 26 rfl) rfl (by unfold bI; split <;> rfl) (some_i (by
      have hx : ∀ (j : Nat), 1 ≤ j → j ≤ 13 → ¬ x = nI j := fun j h1 h2 z => by rw [z, nI_toInt (by omega)] at hs; omega
      unfold good1
      rw [if_neg (fun (z : x = 1 ∨ x = 2) => z.elim (hx 1 (by omega) (by omega)) (hx 2 (by omega) (by omega))), if_neg (show ¬ x = 7 from hx 7 (by omega) (by omega)), if_neg (fun (z : x = 8 ∨ x = 9) => z.elim (hx 8 (by omega) (by omega)) (hx 9 (by omega) (by omega))), if_neg (fun (z : x = 10 ∨ x = 11 ∨ x = 12 ∨ x = 13) => z.elim (hx 10 (by omega) (by omega)) (fun z => z.elim (hx 11 (by omega) (by omega)) (fun z => z.elim (hx 12 (by omega) (by omega)) (hx 13 (by omega) (by omega)))))]))
  · rcases (show k = 1 ∨ k = 2 ∨ k = 3 ∨ k = 4 ∨ k = 5 ∨ k = 6 ∨ k = 7 ∨ k = 8 ∨ k = 9 ∨ k = 10 ∨ k = 11 ∨ k = 12 ∨ k = 13 by omega) with rfl | rfl | rfl | rfl | rfl | rfl | rfl | rfl | rfl | rfl | rfl | rfl | rfl
    · skip
      refine v_iload_n G (decAt dd_MD_isGood 0 rfl) rfl ?_
      refine v_tswIn G 68 (decAt dd_MD_isGood 1 rfl) (by decide) (by decide) rfl (by decide) ?_
      refine v_iload_n G (decAt dd_MD_isGood 2 rfl) rfl ?_
      refine v_iconst G 0 (decAt dd_MD_isGood 3 rfl) (by decide) ?_
      refine v_bipush G 15 (decAt dd_MD_isGood 4 rfl) (by decide) ?_
      refine p_callSi G (XB_Pu G) (As := [.int a, .int 0, .int 15]) (decAt dd_MD_isGood 5 rfl) k_MD_39 (c_MD_in l hE) rfl rfl (by decide) (by decide) rfl rfl (by decide) ?_
      exact p_zret G (decAt dd_MD_isGood 6 rfl) rfl (by unfold bI; split <;> rfl) (some_i rfl)
    · skip
      refine v_iload_n G (decAt dd_MD_isGood 0 rfl) rfl ?_
      refine v_tswIn G 68 (decAt dd_MD_isGood 1 rfl) (by decide) (by decide) rfl (by decide) ?_
      refine v_iload_n G (decAt dd_MD_isGood 2 rfl) rfl ?_
      refine v_iconst G 0 (decAt dd_MD_isGood 3 rfl) (by decide) ?_
      refine v_bipush G 15 (decAt dd_MD_isGood 4 rfl) (by decide) ?_
      refine p_callSi G (XB_Pu G) (As := [.int a, .int 0, .int 15]) (decAt dd_MD_isGood 5 rfl) k_MD_39 (c_MD_in l hE) rfl rfl (by decide) (by decide) rfl rfl (by decide) ?_
      exact p_zret G (decAt dd_MD_isGood 6 rfl) rfl (by unfold bI; split <;> rfl) (some_i rfl)
    · skip
      refine v_iload_n G (decAt dd_MD_isGood 0 rfl) rfl ?_
      refine v_tswIn G 99 (decAt dd_MD_isGood 1 rfl) (by decide) (by decide) rfl (by decide) ?_
      refine v_iload_n G (decAt dd_MD_isGood 22 rfl) rfl ?_
      refine v_iconst G 0 (decAt dd_MD_isGood 23 rfl) (by decide) ?_
      refine v_bipush G 20 (decAt dd_MD_isGood 24 rfl) (by decide) ?_
      refine p_callSi G (XB_Pu G) (As := [.int (nI 3), .int 0, .int 20]) (decAt dd_MD_isGood 25 rfl) k_MD_39 (c_MD_in l hE) rfl rfl (by decide) (by decide) rfl rfl (by decide) ?_
      exact p_zret G (decAt dd_MD_isGood 26 rfl) rfl (by unfold bI; split <;> rfl) (some_i rfl)
    · skip
      refine v_iload_n G (decAt dd_MD_isGood 0 rfl) rfl ?_
      refine v_tswIn G 99 (decAt dd_MD_isGood 1 rfl) (by decide) (by decide) rfl (by decide) ?_
      refine v_iload_n G (decAt dd_MD_isGood 22 rfl) rfl ?_
      refine v_iconst G 0 (decAt dd_MD_isGood 23 rfl) (by decide) ?_
      refine v_bipush G 20 (decAt dd_MD_isGood 24 rfl) (by decide) ?_
      refine p_callSi G (XB_Pu G) (As := [.int (nI 4), .int 0, .int 20]) (decAt dd_MD_isGood 25 rfl) k_MD_39 (c_MD_in l hE) rfl rfl (by decide) (by decide) rfl rfl (by decide) ?_
      exact p_zret G (decAt dd_MD_isGood 26 rfl) rfl (by unfold bI; split <;> rfl) (some_i rfl)
    · skip
      refine v_iload_n G (decAt dd_MD_isGood 0 rfl) rfl ?_
      refine v_tswIn G 99 (decAt dd_MD_isGood 1 rfl) (by decide) (by decide) rfl (by decide) ?_
      refine v_iload_n G (decAt dd_MD_isGood 22 rfl) rfl ?_
      refine v_iconst G 0 (decAt dd_MD_isGood 23 rfl) (by decide) ?_
      refine v_bipush G 20 (decAt dd_MD_isGood 24 rfl) (by decide) ?_
      refine p_callSi G (XB_Pu G) (As := [.int (nI 5), .int 0, .int 20]) (decAt dd_MD_isGood 25 rfl) k_MD_39 (c_MD_in l hE) rfl rfl (by decide) (by decide) rfl rfl (by decide) ?_
      exact p_zret G (decAt dd_MD_isGood 26 rfl) rfl (by unfold bI; split <;> rfl) (some_i rfl)
    · skip
      refine v_iload_n G (decAt dd_MD_isGood 0 rfl) rfl ?_
      refine v_tswIn G 99 (decAt dd_MD_isGood 1 rfl) (by decide) (by decide) rfl (by decide) ?_
      refine v_iload_n G (decAt dd_MD_isGood 22 rfl) rfl ?_
      refine v_iconst G 0 (decAt dd_MD_isGood 23 rfl) (by decide) ?_
      refine v_bipush G 20 (decAt dd_MD_isGood 24 rfl) (by decide) ?_
      refine p_callSi G (XB_Pu G) (As := [.int (nI 6), .int 0, .int 20]) (decAt dd_MD_isGood 25 rfl) k_MD_39 (c_MD_in l hE) rfl rfl (by decide) (by decide) rfl rfl (by decide) ?_
      exact p_zret G (decAt dd_MD_isGood 26 rfl) rfl (by unfold bI; split <;> rfl) (some_i rfl)
    · skip
      refine v_iload_n G (decAt dd_MD_isGood 0 rfl) rfl ?_
      refine v_tswIn G 76 (decAt dd_MD_isGood 1 rfl) (by decide) (by decide) rfl (by decide) ?_
      refine v_iload_n G (decAt dd_MD_isGood 7 rfl) rfl ?_
      refine v_iconst G 0 (decAt dd_MD_isGood 8 rfl) (by decide) ?_
      refine v_bipush G 10 (decAt dd_MD_isGood 9 rfl) (by decide) ?_
      refine p_callSi G (XB_Pu G) (As := [.int a, .int 0, .int 10]) (decAt dd_MD_isGood 10 rfl) k_MD_39 (c_MD_in l hE) rfl rfl (by decide) (by decide) rfl rfl (by decide) ?_
      exact p_zret G (decAt dd_MD_isGood 11 rfl) rfl (by unfold bI; split <;> rfl) (some_i rfl)
    · skip
      refine v_iload_n G (decAt dd_MD_isGood 0 rfl) rfl ?_
      refine v_tswIn G 84 (decAt dd_MD_isGood 1 rfl) (by decide) (by decide) rfl (by decide) ?_
      refine v_iload_n G (decAt dd_MD_isGood 12 rfl) rfl ?_
      refine v_iconst G 0 (decAt dd_MD_isGood 13 rfl) (by decide) ?_
      refine v_iconst G 5 (decAt dd_MD_isGood 14 rfl) (by decide) ?_
      refine p_callSi G (XB_Pu G) (As := [.int a, .int 0, .int 5]) (decAt dd_MD_isGood 15 rfl) k_MD_39 (c_MD_in l hE) rfl rfl (by decide) (by decide) rfl rfl (by decide) ?_
      exact p_zret G (decAt dd_MD_isGood 16 rfl) rfl (by unfold bI; split <;> rfl) (some_i rfl)
    · skip
      refine v_iload_n G (decAt dd_MD_isGood 0 rfl) rfl ?_
      refine v_tswIn G 84 (decAt dd_MD_isGood 1 rfl) (by decide) (by decide) rfl (by decide) ?_
      refine v_iload_n G (decAt dd_MD_isGood 12 rfl) rfl ?_
      refine v_iconst G 0 (decAt dd_MD_isGood 13 rfl) (by decide) ?_
      refine v_iconst G 5 (decAt dd_MD_isGood 14 rfl) (by decide) ?_
      refine p_callSi G (XB_Pu G) (As := [.int a, .int 0, .int 5]) (decAt dd_MD_isGood 15 rfl) k_MD_39 (c_MD_in l hE) rfl rfl (by decide) (by decide) rfl rfl (by decide) ?_
      exact p_zret G (decAt dd_MD_isGood 16 rfl) rfl (by unfold bI; split <;> rfl) (some_i rfl)
    · skip
      refine v_iload_n G (decAt dd_MD_isGood 0 rfl) rfl ?_
      refine v_tswIn G 91 (decAt dd_MD_isGood 1 rfl) (by decide) (by decide) rfl (by decide) ?_
      refine v_iload_n G (decAt dd_MD_isGood 17 rfl) rfl ?_
      refine v_iconst G 0 (decAt dd_MD_isGood 18 rfl) (by decide) ?_
      refine v_bipush G 99 (decAt dd_MD_isGood 19 rfl) (by decide) ?_
      refine p_callSi G (XB_Pu G) (As := [.int a, .int 0, .int 99]) (decAt dd_MD_isGood 20 rfl) k_MD_39 (c_MD_in l hE) rfl rfl (by decide) (by decide) rfl rfl (by decide) ?_
      exact p_zret G (decAt dd_MD_isGood 21 rfl) rfl (by unfold bI; split <;> rfl) (some_i rfl)
    · skip
      refine v_iload_n G (decAt dd_MD_isGood 0 rfl) rfl ?_
      refine v_tswIn G 91 (decAt dd_MD_isGood 1 rfl) (by decide) (by decide) rfl (by decide) ?_
      refine v_iload_n G (decAt dd_MD_isGood 17 rfl) rfl ?_
      refine v_iconst G 0 (decAt dd_MD_isGood 18 rfl) (by decide) ?_
      refine v_bipush G 99 (decAt dd_MD_isGood 19 rfl) (by decide) ?_
      refine p_callSi G (XB_Pu G) (As := [.int a, .int 0, .int 99]) (decAt dd_MD_isGood 20 rfl) k_MD_39 (c_MD_in l hE) rfl rfl (by decide) (by decide) rfl rfl (by decide) ?_
      exact p_zret G (decAt dd_MD_isGood 21 rfl) rfl (by unfold bI; split <;> rfl) (some_i rfl)
    · skip
      refine v_iload_n G (decAt dd_MD_isGood 0 rfl) rfl ?_
      refine v_tswIn G 91 (decAt dd_MD_isGood 1 rfl) (by decide) (by decide) rfl (by decide) ?_
      refine v_iload_n G (decAt dd_MD_isGood 17 rfl) rfl ?_
      refine v_iconst G 0 (decAt dd_MD_isGood 18 rfl) (by decide) ?_
      refine v_bipush G 99 (decAt dd_MD_isGood 19 rfl) (by decide) ?_
      refine p_callSi G (XB_Pu G) (As := [.int a, .int 0, .int 99]) (decAt dd_MD_isGood 20 rfl) k_MD_39 (c_MD_in l hE) rfl rfl (by decide) (by decide) rfl rfl (by decide) ?_
      exact p_zret G (decAt dd_MD_isGood 21 rfl) rfl (by unfold bI; split <;> rfl) (some_i rfl)
    · skip
      refine v_iload_n G (decAt dd_MD_isGood 0 rfl) rfl ?_
      refine v_tswIn G 91 (decAt dd_MD_isGood 1 rfl) (by decide) (by decide) rfl (by decide) ?_
      refine v_iload_n G (decAt dd_MD_isGood 17 rfl) rfl ?_
      refine v_iconst G 0 (decAt dd_MD_isGood 18 rfl) (by decide) ?_
      refine v_bipush G 99 (decAt dd_MD_isGood 19 rfl) (by decide) ?_
      refine p_callSi G (XB_Pu G) (As := [.int a, .int 0, .int 99]) (decAt dd_MD_isGood 20 rfl) k_MD_39 (c_MD_in l hE) rfl rfl (by decide) (by decide) rfl rfl (by decide) ?_
      exact p_zret G (decAt dd_MD_isGood 21 rfl) rfl (by unfold bI; split <;> rfl) (some_i rfl)
set_option maxHeartbeats 4000000 in
theorem c_MD_takes (l : Launch) {E : Bs} (hE : Hb E) {k : Nat} (hk : k ≤ 20) : CP l E y_MD_takes b_MD_takes 1 (some .int) ({ frames := 0, cells := 0, slots := 0, locals := 0 } : Room) [.int (nI k)] (fun r => r = some (.int (stv 0 k))) := by
  refine CP.start0 [some (.int (nI k))] hE (by decide) (Nat.le_of_ble_eq_true rfl) rfl ?_
  intro p e s m args below meth c G
  rcases (show k = 0 ∨ k = 1 ∨ k = 2 ∨ k = 3 ∨ k = 4 ∨ k = 5 ∨ k = 6 ∨ k = 7 ∨ k = 8 ∨ k = 9 ∨ k = 10 ∨ k = 11 ∨ k = 12 ∨ k = 13 ∨ k = 14 ∨ k = 15 ∨ k = 16 ∨ k = 17 ∨ k = 18 ∨ k = 19 ∨ k = 20 by omega) with rfl | rfl | rfl | rfl | rfl | rfl | rfl | rfl | rfl | rfl | rfl | rfl | rfl | rfl | rfl | rfl | rfl | rfl | rfl | rfl | rfl
  · skip
    refine v_iload_n G (decAt dd_MD_takes 0 rfl) rfl ?_
    refine v_tswOut G 98 (decAt dd_MD_takes 1 rfl) (by decide) (by decide) ?_
    refine v_iconst G 0 (decAt dd_MD_takes 8 rfl) (by decide) ?_
    exact p_iret G (decAt dd_MD_takes 9 rfl) rfl (some_i (by decide))
  · skip
    refine v_iload_n G (decAt dd_MD_takes 0 rfl) rfl ?_
    refine v_tswOut G 98 (decAt dd_MD_takes 1 rfl) (by decide) (by decide) ?_
    refine v_iconst G 0 (decAt dd_MD_takes 8 rfl) (by decide) ?_
    exact p_iret G (decAt dd_MD_takes 9 rfl) rfl (some_i (by decide))
  · skip
    refine v_iload_n G (decAt dd_MD_takes 0 rfl) rfl ?_
    refine v_tswIn G 92 (decAt dd_MD_takes 1 rfl) (by decide) (by decide) rfl (by decide) ?_
    refine v_iconst G 1 (decAt dd_MD_takes 2 rfl) (by decide) ?_
    exact p_iret G (decAt dd_MD_takes 3 rfl) rfl (some_i (by decide))
  · skip
    refine v_iload_n G (decAt dd_MD_takes 0 rfl) rfl ?_
    refine v_tswIn G 92 (decAt dd_MD_takes 1 rfl) (by decide) (by decide) rfl (by decide) ?_
    refine v_iconst G 1 (decAt dd_MD_takes 2 rfl) (by decide) ?_
    exact p_iret G (decAt dd_MD_takes 3 rfl) rfl (some_i (by decide))
  · skip
    refine v_iload_n G (decAt dd_MD_takes 0 rfl) rfl ?_
    refine v_tswIn G 94 (decAt dd_MD_takes 1 rfl) (by decide) (by decide) rfl (by decide) ?_
    refine v_iconst G 2 (decAt dd_MD_takes 4 rfl) (by decide) ?_
    exact p_iret G (decAt dd_MD_takes 5 rfl) rfl (some_i (by decide))
  · skip
    refine v_iload_n G (decAt dd_MD_takes 0 rfl) rfl ?_
    refine v_tswIn G 92 (decAt dd_MD_takes 1 rfl) (by decide) (by decide) rfl (by decide) ?_
    refine v_iconst G 1 (decAt dd_MD_takes 2 rfl) (by decide) ?_
    exact p_iret G (decAt dd_MD_takes 3 rfl) rfl (some_i (by decide))
  · skip
    refine v_iload_n G (decAt dd_MD_takes 0 rfl) rfl ?_
    refine v_tswIn G 92 (decAt dd_MD_takes 1 rfl) (by decide) (by decide) rfl (by decide) ?_
    refine v_iconst G 1 (decAt dd_MD_takes 2 rfl) (by decide) ?_
    exact p_iret G (decAt dd_MD_takes 3 rfl) rfl (some_i (by decide))
  · skip
    refine v_iload_n G (decAt dd_MD_takes 0 rfl) rfl ?_
    refine v_tswIn G 94 (decAt dd_MD_takes 1 rfl) (by decide) (by decide) rfl (by decide) ?_
    refine v_iconst G 2 (decAt dd_MD_takes 4 rfl) (by decide) ?_
    exact p_iret G (decAt dd_MD_takes 5 rfl) rfl (some_i (by decide))
  · skip
    refine v_iload_n G (decAt dd_MD_takes 0 rfl) rfl ?_
    refine v_tswIn G 94 (decAt dd_MD_takes 1 rfl) (by decide) (by decide) rfl (by decide) ?_
    refine v_iconst G 2 (decAt dd_MD_takes 4 rfl) (by decide) ?_
    exact p_iret G (decAt dd_MD_takes 5 rfl) rfl (some_i (by decide))
  · skip
    refine v_iload_n G (decAt dd_MD_takes 0 rfl) rfl ?_
    refine v_tswIn G 94 (decAt dd_MD_takes 1 rfl) (by decide) (by decide) rfl (by decide) ?_
    refine v_iconst G 2 (decAt dd_MD_takes 4 rfl) (by decide) ?_
    exact p_iret G (decAt dd_MD_takes 5 rfl) rfl (some_i (by decide))
  · skip
    refine v_iload_n G (decAt dd_MD_takes 0 rfl) rfl ?_
    refine v_tswIn G 98 (decAt dd_MD_takes 1 rfl) (by decide) (by decide) rfl (by decide) ?_
    refine v_iconst G 0 (decAt dd_MD_takes 8 rfl) (by decide) ?_
    exact p_iret G (decAt dd_MD_takes 9 rfl) rfl (some_i (by decide))
  · skip
    refine v_iload_n G (decAt dd_MD_takes 0 rfl) rfl ?_
    refine v_tswIn G 92 (decAt dd_MD_takes 1 rfl) (by decide) (by decide) rfl (by decide) ?_
    refine v_iconst G 1 (decAt dd_MD_takes 2 rfl) (by decide) ?_
    exact p_iret G (decAt dd_MD_takes 3 rfl) rfl (some_i (by decide))
  · skip
    refine v_iload_n G (decAt dd_MD_takes 0 rfl) rfl ?_
    refine v_tswIn G 92 (decAt dd_MD_takes 1 rfl) (by decide) (by decide) rfl (by decide) ?_
    refine v_iconst G 1 (decAt dd_MD_takes 2 rfl) (by decide) ?_
    exact p_iret G (decAt dd_MD_takes 3 rfl) rfl (some_i (by decide))
  · skip
    refine v_iload_n G (decAt dd_MD_takes 0 rfl) rfl ?_
    refine v_tswIn G 98 (decAt dd_MD_takes 1 rfl) (by decide) (by decide) rfl (by decide) ?_
    refine v_iconst G 0 (decAt dd_MD_takes 8 rfl) (by decide) ?_
    exact p_iret G (decAt dd_MD_takes 9 rfl) rfl (some_i (by decide))
  · skip
    refine v_iload_n G (decAt dd_MD_takes 0 rfl) rfl ?_
    refine v_tswIn G 92 (decAt dd_MD_takes 1 rfl) (by decide) (by decide) rfl (by decide) ?_
    refine v_iconst G 1 (decAt dd_MD_takes 2 rfl) (by decide) ?_
    exact p_iret G (decAt dd_MD_takes 3 rfl) rfl (some_i (by decide))
  · skip
    refine v_iload_n G (decAt dd_MD_takes 0 rfl) rfl ?_
    refine v_tswIn G 98 (decAt dd_MD_takes 1 rfl) (by decide) (by decide) rfl (by decide) ?_
    refine v_iconst G 0 (decAt dd_MD_takes 8 rfl) (by decide) ?_
    exact p_iret G (decAt dd_MD_takes 9 rfl) rfl (some_i (by decide))
  · skip
    refine v_iload_n G (decAt dd_MD_takes 0 rfl) rfl ?_
    refine v_tswIn G 92 (decAt dd_MD_takes 1 rfl) (by decide) (by decide) rfl (by decide) ?_
    refine v_iconst G 1 (decAt dd_MD_takes 2 rfl) (by decide) ?_
    exact p_iret G (decAt dd_MD_takes 3 rfl) rfl (some_i (by decide))
  · skip
    refine v_iload_n G (decAt dd_MD_takes 0 rfl) rfl ?_
    refine v_tswIn G 98 (decAt dd_MD_takes 1 rfl) (by decide) (by decide) rfl (by decide) ?_
    refine v_iconst G 0 (decAt dd_MD_takes 8 rfl) (by decide) ?_
    exact p_iret G (decAt dd_MD_takes 9 rfl) rfl (some_i (by decide))
  · skip
    refine v_iload_n G (decAt dd_MD_takes 0 rfl) rfl ?_
    refine v_tswIn G 92 (decAt dd_MD_takes 1 rfl) (by decide) (by decide) rfl (by decide) ?_
    refine v_iconst G 1 (decAt dd_MD_takes 2 rfl) (by decide) ?_
    exact p_iret G (decAt dd_MD_takes 3 rfl) rfl (some_i (by decide))
  · skip
    refine v_iload_n G (decAt dd_MD_takes 0 rfl) rfl ?_
    refine v_tswIn G 94 (decAt dd_MD_takes 1 rfl) (by decide) (by decide) rfl (by decide) ?_
    refine v_iconst G 2 (decAt dd_MD_takes 4 rfl) (by decide) ?_
    exact p_iret G (decAt dd_MD_takes 5 rfl) rfl (some_i (by decide))
  · skip
    refine v_iload_n G (decAt dd_MD_takes 0 rfl) rfl ?_
    refine v_tswIn G 96 (decAt dd_MD_takes 1 rfl) (by decide) (by decide) rfl (by decide) ?_
    refine v_iconst G 3 (decAt dd_MD_takes 6 rfl) (by decide) ?_
    exact p_iret G (decAt dd_MD_takes 7 rfl) rfl (some_i (by decide))
set_option maxHeartbeats 4000000 in
theorem c_MD_gives (l : Launch) {E : Bs} (hE : Hb E) {k : Nat} (hk : k ≤ 20) : CP l E y_MD_gives b_MD_gives 1 (some .int) ({ frames := 0, cells := 0, slots := 0, locals := 0 } : Room) [.int (nI k)] (fun r => r = some (.int (stv 1 k))) := by
  refine CP.start0 [some (.int (nI k))] hE (by decide) (Nat.le_of_ble_eq_true rfl) rfl ?_
  intro p e s m args below meth c G
  rcases (show k = 0 ∨ k = 1 ∨ k = 2 ∨ k = 3 ∨ k = 4 ∨ k = 5 ∨ k = 6 ∨ k = 7 ∨ k = 8 ∨ k = 9 ∨ k = 10 ∨ k = 11 ∨ k = 12 ∨ k = 13 ∨ k = 14 ∨ k = 15 ∨ k = 16 ∨ k = 17 ∨ k = 18 ∨ k = 19 ∨ k = 20 by omega) with rfl | rfl | rfl | rfl | rfl | rfl | rfl | rfl | rfl | rfl | rfl | rfl | rfl | rfl | rfl | rfl | rfl | rfl | rfl | rfl | rfl
  · skip
    refine v_iload_n G (decAt dd_MD_gives 0 rfl) rfl ?_
    refine v_tswIn G 100 (decAt dd_MD_gives 1 rfl) (by decide) (by decide) rfl (by decide) ?_
    refine v_iconst G 1 (decAt dd_MD_gives 2 rfl) (by decide) ?_
    exact p_iret G (decAt dd_MD_gives 3 rfl) rfl (some_i (by decide))
  · skip
    refine v_iload_n G (decAt dd_MD_gives 0 rfl) rfl ?_
    refine v_tswIn G 100 (decAt dd_MD_gives 1 rfl) (by decide) (by decide) rfl (by decide) ?_
    refine v_iconst G 1 (decAt dd_MD_gives 2 rfl) (by decide) ?_
    exact p_iret G (decAt dd_MD_gives 3 rfl) rfl (some_i (by decide))
  · skip
    refine v_iload_n G (decAt dd_MD_gives 0 rfl) rfl ?_
    refine v_tswIn G 102 (decAt dd_MD_gives 1 rfl) (by decide) (by decide) rfl (by decide) ?_
    refine v_iconst G (-1) (decAt dd_MD_gives 4 rfl) (by decide) ?_
    exact p_iret G (decAt dd_MD_gives 5 rfl) rfl (some_i (by decide))
  · skip
    refine v_iload_n G (decAt dd_MD_gives 0 rfl) rfl ?_
    refine v_tswIn G 110 (decAt dd_MD_gives 1 rfl) (by decide) (by decide) rfl (by decide) ?_
    refine v_iconst G 0 (decAt dd_MD_gives 10 rfl) (by decide) ?_
    exact p_iret G (decAt dd_MD_gives 11 rfl) rfl (some_i (by decide))
  · skip
    refine v_iload_n G (decAt dd_MD_gives 0 rfl) rfl ?_
    refine v_tswIn G 104 (decAt dd_MD_gives 1 rfl) (by decide) (by decide) rfl (by decide) ?_
    refine v_bipush G (-2) (decAt dd_MD_gives 6 rfl) (by decide) ?_
    exact p_iret G (decAt dd_MD_gives 7 rfl) rfl (some_i (by decide))
  · skip
    refine v_iload_n G (decAt dd_MD_gives 0 rfl) rfl ?_
    refine v_tswIn G 110 (decAt dd_MD_gives 1 rfl) (by decide) (by decide) rfl (by decide) ?_
    refine v_iconst G 0 (decAt dd_MD_gives 10 rfl) (by decide) ?_
    exact p_iret G (decAt dd_MD_gives 11 rfl) rfl (some_i (by decide))
  · skip
    refine v_iload_n G (decAt dd_MD_gives 0 rfl) rfl ?_
    refine v_tswIn G 110 (decAt dd_MD_gives 1 rfl) (by decide) (by decide) rfl (by decide) ?_
    refine v_iconst G 0 (decAt dd_MD_gives 10 rfl) (by decide) ?_
    exact p_iret G (decAt dd_MD_gives 11 rfl) rfl (some_i (by decide))
  · skip
    refine v_iload_n G (decAt dd_MD_gives 0 rfl) rfl ?_
    refine v_tswIn G 102 (decAt dd_MD_gives 1 rfl) (by decide) (by decide) rfl (by decide) ?_
    refine v_iconst G (-1) (decAt dd_MD_gives 4 rfl) (by decide) ?_
    exact p_iret G (decAt dd_MD_gives 5 rfl) rfl (some_i (by decide))
  · skip
    refine v_iload_n G (decAt dd_MD_gives 0 rfl) rfl ?_
    refine v_tswIn G 102 (decAt dd_MD_gives 1 rfl) (by decide) (by decide) rfl (by decide) ?_
    refine v_iconst G (-1) (decAt dd_MD_gives 4 rfl) (by decide) ?_
    exact p_iret G (decAt dd_MD_gives 5 rfl) rfl (some_i (by decide))
  · skip
    refine v_iload_n G (decAt dd_MD_gives 0 rfl) rfl ?_
    refine v_tswIn G 110 (decAt dd_MD_gives 1 rfl) (by decide) (by decide) rfl (by decide) ?_
    refine v_iconst G 0 (decAt dd_MD_gives 10 rfl) (by decide) ?_
    exact p_iret G (decAt dd_MD_gives 11 rfl) rfl (some_i (by decide))
  · skip
    refine v_iload_n G (decAt dd_MD_gives 0 rfl) rfl ?_
    refine v_tswIn G 110 (decAt dd_MD_gives 1 rfl) (by decide) (by decide) rfl (by decide) ?_
    refine v_iconst G 0 (decAt dd_MD_gives 10 rfl) (by decide) ?_
    exact p_iret G (decAt dd_MD_gives 11 rfl) rfl (some_i (by decide))
  · skip
    refine v_iload_n G (decAt dd_MD_gives 0 rfl) rfl ?_
    refine v_tswIn G 102 (decAt dd_MD_gives 1 rfl) (by decide) (by decide) rfl (by decide) ?_
    refine v_iconst G (-1) (decAt dd_MD_gives 4 rfl) (by decide) ?_
    exact p_iret G (decAt dd_MD_gives 5 rfl) rfl (some_i (by decide))
  · skip
    refine v_iload_n G (decAt dd_MD_gives 0 rfl) rfl ?_
    refine v_tswIn G 102 (decAt dd_MD_gives 1 rfl) (by decide) (by decide) rfl (by decide) ?_
    refine v_iconst G (-1) (decAt dd_MD_gives 4 rfl) (by decide) ?_
    exact p_iret G (decAt dd_MD_gives 5 rfl) rfl (some_i (by decide))
  · skip
    refine v_iload_n G (decAt dd_MD_gives 0 rfl) rfl ?_
    refine v_tswIn G 110 (decAt dd_MD_gives 1 rfl) (by decide) (by decide) rfl (by decide) ?_
    refine v_iconst G 0 (decAt dd_MD_gives 10 rfl) (by decide) ?_
    exact p_iret G (decAt dd_MD_gives 11 rfl) rfl (some_i (by decide))
  · skip
    refine v_iload_n G (decAt dd_MD_gives 0 rfl) rfl ?_
    refine v_tswIn G 102 (decAt dd_MD_gives 1 rfl) (by decide) (by decide) rfl (by decide) ?_
    refine v_iconst G (-1) (decAt dd_MD_gives 4 rfl) (by decide) ?_
    exact p_iret G (decAt dd_MD_gives 5 rfl) rfl (some_i (by decide))
  · skip
    refine v_iload_n G (decAt dd_MD_gives 0 rfl) rfl ?_
    refine v_tswIn G 110 (decAt dd_MD_gives 1 rfl) (by decide) (by decide) rfl (by decide) ?_
    refine v_iconst G 0 (decAt dd_MD_gives 10 rfl) (by decide) ?_
    exact p_iret G (decAt dd_MD_gives 11 rfl) rfl (some_i (by decide))
  · skip
    refine v_iload_n G (decAt dd_MD_gives 0 rfl) rfl ?_
    refine v_tswIn G 110 (decAt dd_MD_gives 1 rfl) (by decide) (by decide) rfl (by decide) ?_
    refine v_iconst G 0 (decAt dd_MD_gives 10 rfl) (by decide) ?_
    exact p_iret G (decAt dd_MD_gives 11 rfl) rfl (some_i (by decide))
  · skip
    refine v_iload_n G (decAt dd_MD_gives 0 rfl) rfl ?_
    refine v_tswIn G 110 (decAt dd_MD_gives 1 rfl) (by decide) (by decide) rfl (by decide) ?_
    refine v_iconst G 0 (decAt dd_MD_gives 10 rfl) (by decide) ?_
    exact p_iret G (decAt dd_MD_gives 11 rfl) rfl (some_i (by decide))
  · skip
    refine v_iload_n G (decAt dd_MD_gives 0 rfl) rfl ?_
    refine v_tswIn G 110 (decAt dd_MD_gives 1 rfl) (by decide) (by decide) rfl (by decide) ?_
    refine v_iconst G 0 (decAt dd_MD_gives 10 rfl) (by decide) ?_
    exact p_iret G (decAt dd_MD_gives 11 rfl) rfl (some_i (by decide))
  · skip
    refine v_iload_n G (decAt dd_MD_gives 0 rfl) rfl ?_
    refine v_tswIn G 102 (decAt dd_MD_gives 1 rfl) (by decide) (by decide) rfl (by decide) ?_
    refine v_iconst G (-1) (decAt dd_MD_gives 4 rfl) (by decide) ?_
    exact p_iret G (decAt dd_MD_gives 5 rfl) rfl (some_i (by decide))
  · skip
    refine v_iload_n G (decAt dd_MD_gives 0 rfl) rfl ?_
    refine v_tswIn G 107 (decAt dd_MD_gives 1 rfl) (by decide) (by decide) rfl (by decide) ?_
    refine v_bipush G (-3) (decAt dd_MD_gives 8 rfl) (by decide) ?_
    exact p_iret G (decAt dd_MD_gives 9 rfl) rfl (some_i (by decide))
set_option maxHeartbeats 4000000 in
theorem c_GN_grows (l : Launch) {E : Bs} (hE : Hb E) {k : Nat} {a : Int32} (hk : k ≤ 24) (h16 : k ≠ 16) : CP l E y_GN_grows b_GN_grows 2 (some .int) ({ frames := 0, cells := 0, slots := 0, locals := 0 } : Room) [.int (nI k), .int a] (fun r => r = some (.int (grL.getD k 0))) := by
  refine CP.start0 [some (.int (nI k)), some (.int a)] hE (by decide) (Nat.le_of_ble_eq_true rfl) rfl ?_
  intro p e s m args below meth c G
  rcases (show k = 0 ∨ k = 1 ∨ k = 2 ∨ k = 3 ∨ k = 4 ∨ k = 5 ∨ k = 6 ∨ k = 7 ∨ k = 8 ∨ k = 9 ∨ k = 10 ∨ k = 11 ∨ k = 12 ∨ k = 13 ∨ k = 14 ∨ k = 15 ∨ k = 16 ∨ k = 17 ∨ k = 18 ∨ k = 19 ∨ k = 20 ∨ k = 21 ∨ k = 22 ∨ k = 23 ∨ k = 24 by omega) with rfl | rfl | rfl | rfl | rfl | rfl | rfl | rfl | rfl | rfl | rfl | rfl | rfl | rfl | rfl | rfl | rfl | rfl | rfl | rfl | rfl | rfl | rfl | rfl | rfl
  · skip
    refine v_iload_n G (decAt dd_GN_grows 0 rfl) rfl ?_
    refine v_tswIn G 116 (decAt dd_GN_grows 1 rfl) (by decide) (by decide) rfl (by decide) ?_
    refine v_iconst G 1 (decAt dd_GN_grows 2 rfl) (by decide) ?_
    exact p_iret G (decAt dd_GN_grows 3 rfl) rfl (some_i (by decide))
  · skip
    refine v_iload_n G (decAt dd_GN_grows 0 rfl) rfl ?_
    refine v_tswIn G 116 (decAt dd_GN_grows 1 rfl) (by decide) (by decide) rfl (by decide) ?_
    refine v_iconst G 1 (decAt dd_GN_grows 2 rfl) (by decide) ?_
    exact p_iret G (decAt dd_GN_grows 3 rfl) rfl (some_i (by decide))
  · skip
    refine v_iload_n G (decAt dd_GN_grows 0 rfl) rfl ?_
    refine v_tswIn G 116 (decAt dd_GN_grows 1 rfl) (by decide) (by decide) rfl (by decide) ?_
    refine v_iconst G 1 (decAt dd_GN_grows 2 rfl) (by decide) ?_
    exact p_iret G (decAt dd_GN_grows 3 rfl) rfl (some_i (by decide))
  · skip
    refine v_iload_n G (decAt dd_GN_grows 0 rfl) rfl ?_
    refine v_tswIn G 118 (decAt dd_GN_grows 1 rfl) (by decide) (by decide) rfl (by decide) ?_
    refine v_iconst G (-1) (decAt dd_GN_grows 4 rfl) (by decide) ?_
    exact p_iret G (decAt dd_GN_grows 5 rfl) rfl (some_i (by decide))
  · skip
    refine v_iload_n G (decAt dd_GN_grows 0 rfl) rfl ?_
    refine v_tswIn G 118 (decAt dd_GN_grows 1 rfl) (by decide) (by decide) rfl (by decide) ?_
    refine v_iconst G (-1) (decAt dd_GN_grows 4 rfl) (by decide) ?_
    exact p_iret G (decAt dd_GN_grows 5 rfl) rfl (some_i (by decide))
  · skip
    refine v_iload_n G (decAt dd_GN_grows 0 rfl) rfl ?_
    refine v_tswIn G 132 (decAt dd_GN_grows 1 rfl) (by decide) (by decide) rfl (by decide) ?_
    refine v_iconst G 0 (decAt dd_GN_grows 15 rfl) (by decide) ?_
    exact p_iret G (decAt dd_GN_grows 16 rfl) rfl (some_i (by decide))
  · skip
    refine v_iload_n G (decAt dd_GN_grows 0 rfl) rfl ?_
    refine v_tswIn G 120 (decAt dd_GN_grows 1 rfl) (by decide) (by decide) rfl (by decide) ?_
    refine v_bipush G (-2) (decAt dd_GN_grows 6 rfl) (by decide) ?_
    exact p_iret G (decAt dd_GN_grows 7 rfl) rfl (some_i (by decide))
  · skip
    refine v_iload_n G (decAt dd_GN_grows 0 rfl) rfl ?_
    refine v_tswIn G 116 (decAt dd_GN_grows 1 rfl) (by decide) (by decide) rfl (by decide) ?_
    refine v_iconst G 1 (decAt dd_GN_grows 2 rfl) (by decide) ?_
    exact p_iret G (decAt dd_GN_grows 3 rfl) rfl (some_i (by decide))
  · skip
    refine v_iload_n G (decAt dd_GN_grows 0 rfl) rfl ?_
    refine v_tswIn G 132 (decAt dd_GN_grows 1 rfl) (by decide) (by decide) rfl (by decide) ?_
    refine v_iconst G 0 (decAt dd_GN_grows 15 rfl) (by decide) ?_
    exact p_iret G (decAt dd_GN_grows 16 rfl) rfl (some_i (by decide))
  · skip
    refine v_iload_n G (decAt dd_GN_grows 0 rfl) rfl ?_
    refine v_tswIn G 132 (decAt dd_GN_grows 1 rfl) (by decide) (by decide) rfl (by decide) ?_
    refine v_iconst G 0 (decAt dd_GN_grows 15 rfl) (by decide) ?_
    exact p_iret G (decAt dd_GN_grows 16 rfl) rfl (some_i (by decide))
  · skip
    refine v_iload_n G (decAt dd_GN_grows 0 rfl) rfl ?_
    refine v_tswIn G 118 (decAt dd_GN_grows 1 rfl) (by decide) (by decide) rfl (by decide) ?_
    refine v_iconst G (-1) (decAt dd_GN_grows 4 rfl) (by decide) ?_
    exact p_iret G (decAt dd_GN_grows 5 rfl) rfl (some_i (by decide))
  · skip
    refine v_iload_n G (decAt dd_GN_grows 0 rfl) rfl ?_
    refine v_tswIn G 118 (decAt dd_GN_grows 1 rfl) (by decide) (by decide) rfl (by decide) ?_
    refine v_iconst G (-1) (decAt dd_GN_grows 4 rfl) (by decide) ?_
    exact p_iret G (decAt dd_GN_grows 5 rfl) rfl (some_i (by decide))
  · skip
    refine v_iload_n G (decAt dd_GN_grows 0 rfl) rfl ?_
    refine v_tswIn G 132 (decAt dd_GN_grows 1 rfl) (by decide) (by decide) rfl (by decide) ?_
    refine v_iconst G 0 (decAt dd_GN_grows 15 rfl) (by decide) ?_
    exact p_iret G (decAt dd_GN_grows 16 rfl) rfl (some_i (by decide))
  · skip
    refine v_iload_n G (decAt dd_GN_grows 0 rfl) rfl ?_
    refine v_tswIn G 132 (decAt dd_GN_grows 1 rfl) (by decide) (by decide) rfl (by decide) ?_
    refine v_iconst G 0 (decAt dd_GN_grows 15 rfl) (by decide) ?_
    exact p_iret G (decAt dd_GN_grows 16 rfl) rfl (some_i (by decide))
  · skip
    refine v_iload_n G (decAt dd_GN_grows 0 rfl) rfl ?_
    refine v_tswIn G 118 (decAt dd_GN_grows 1 rfl) (by decide) (by decide) rfl (by decide) ?_
    refine v_iconst G (-1) (decAt dd_GN_grows 4 rfl) (by decide) ?_
    exact p_iret G (decAt dd_GN_grows 5 rfl) rfl (some_i (by decide))
  · skip
    refine v_iload_n G (decAt dd_GN_grows 0 rfl) rfl ?_
    refine v_tswIn G 118 (decAt dd_GN_grows 1 rfl) (by decide) (by decide) rfl (by decide) ?_
    refine v_iconst G (-1) (decAt dd_GN_grows 4 rfl) (by decide) ?_
    exact p_iret G (decAt dd_GN_grows 5 rfl) rfl (some_i (by decide))
  · exact absurd rfl h16
  · skip
    refine v_iload_n G (decAt dd_GN_grows 0 rfl) rfl ?_
    refine v_tswIn G 132 (decAt dd_GN_grows 1 rfl) (by decide) (by decide) rfl (by decide) ?_
    refine v_iconst G 0 (decAt dd_GN_grows 15 rfl) (by decide) ?_
    exact p_iret G (decAt dd_GN_grows 16 rfl) rfl (some_i (by decide))
  · skip
    refine v_iload_n G (decAt dd_GN_grows 0 rfl) rfl ?_
    refine v_tswIn G 132 (decAt dd_GN_grows 1 rfl) (by decide) (by decide) rfl (by decide) ?_
    refine v_iconst G 0 (decAt dd_GN_grows 15 rfl) (by decide) ?_
    exact p_iret G (decAt dd_GN_grows 16 rfl) rfl (some_i (by decide))
  · skip
    refine v_iload_n G (decAt dd_GN_grows 0 rfl) rfl ?_
    refine v_tswIn G 118 (decAt dd_GN_grows 1 rfl) (by decide) (by decide) rfl (by decide) ?_
    refine v_iconst G (-1) (decAt dd_GN_grows 4 rfl) (by decide) ?_
    exact p_iret G (decAt dd_GN_grows 5 rfl) rfl (some_i (by decide))
  · skip
    refine v_iload_n G (decAt dd_GN_grows 0 rfl) rfl ?_
    refine v_tswIn G 132 (decAt dd_GN_grows 1 rfl) (by decide) (by decide) rfl (by decide) ?_
    refine v_iconst G 0 (decAt dd_GN_grows 15 rfl) (by decide) ?_
    exact p_iret G (decAt dd_GN_grows 16 rfl) rfl (some_i (by decide))
  · skip
    refine v_iload_n G (decAt dd_GN_grows 0 rfl) rfl ?_
    refine v_tswIn G 132 (decAt dd_GN_grows 1 rfl) (by decide) (by decide) rfl (by decide) ?_
    refine v_iconst G 0 (decAt dd_GN_grows 15 rfl) (by decide) ?_
    exact p_iret G (decAt dd_GN_grows 16 rfl) rfl (some_i (by decide))
  · skip
    refine v_iload_n G (decAt dd_GN_grows 0 rfl) rfl ?_
    refine v_tswIn G 132 (decAt dd_GN_grows 1 rfl) (by decide) (by decide) rfl (by decide) ?_
    refine v_iconst G 0 (decAt dd_GN_grows 15 rfl) (by decide) ?_
    exact p_iret G (decAt dd_GN_grows 16 rfl) rfl (some_i (by decide))
  · skip
    refine v_iload_n G (decAt dd_GN_grows 0 rfl) rfl ?_
    refine v_tswIn G 118 (decAt dd_GN_grows 1 rfl) (by decide) (by decide) rfl (by decide) ?_
    refine v_iconst G (-1) (decAt dd_GN_grows 4 rfl) (by decide) ?_
    exact p_iret G (decAt dd_GN_grows 5 rfl) rfl (some_i (by decide))
  · skip
    refine v_iload_n G (decAt dd_GN_grows 0 rfl) rfl ?_
    refine v_tswIn G 123 (decAt dd_GN_grows 1 rfl) (by decide) (by decide) rfl (by decide) ?_
    refine v_bipush G (-3) (decAt dd_GN_grows 8 rfl) (by decide) ?_
    exact p_iret G (decAt dd_GN_grows 9 rfl) rfl (some_i (by decide))
set_option maxHeartbeats 4000000 in
theorem c_MD_made (l : Launch) {E : Bs} (hE : Hb E) {a b : Int32} {k : Nat} (hk : k ≤ 10) (hz : k = 3 ∨ k = 4 → ¬ b = 0) : CP l E y_MD_made b_MD_made 4 (some .int) ({ frames := 0, cells := 0, slots := 0, locals := 0 } : Room) [.int (nI k), .int a, .int b] (fun r => r = some (.int (opr k a b))) := by
  refine CP.start0 [some (.int (nI k)), some (.int a), some (.int b), none] hE (by decide) (Nat.le_of_ble_eq_true rfl) rfl ?_
  intro p e s m args below meth c G
  have J : ∀ (far : Bool), (far = true ↔ (b < 0 ∨ 31 < b)) → V p l e ({ frames := 0, cells := 0, slots := 0, locals := 0 } : Room) s m args below meth c 4 (Pu s.heap) 0 0 (MQ below (QP (fun r => r = some (.int (opr k a b)))) args s 0 0 (fun _ => False)) 16 [some (.int (nI k)), some (.int a), some (.int b), some (.int (bI far))] [] := by
    intro far hfar
    rcases (show k = 0 ∨ k = 1 ∨ k = 2 ∨ k = 3 ∨ k = 4 ∨ k = 5 ∨ k = 6 ∨ k = 7 ∨ k = 8 ∨ k = 9 ∨ k = 10 by omega) with rfl | rfl | rfl | rfl | rfl | rfl | rfl | rfl | rfl | rfl | rfl
    · skip
      refine v_iload_n G (decAt dd_MD_made 9 rfl) rfl ?_
      refine v_tswIn G 72 (decAt dd_MD_made 10 rfl) (by decide) (by decide) rfl (by decide) ?_
      refine v_iload_n G (decAt dd_MD_made 11 rfl) rfl ?_
      refine v_iload_n G (decAt dd_MD_made 12 rfl) rfl ?_
      refine v_iadd G (decAt dd_MD_made 13 rfl) ?_
      exact p_iret G (decAt dd_MD_made 14 rfl) rfl (some_i (by first | rfl | (subst c86; exact (div_m1 _).symm) | (subst c100; exact (rem_m1 _).symm) | (cases far <;> simp_all [opr, shf, bI]; done) | (cases far with | true => simp_all [opr, shf, bI] | false => (show _ = shf _ _ _; unfold shf; rw [if_neg (fun z => absurd (hfar.mpr z) (by decide))]; rfl))))
    · skip
      refine v_iload_n G (decAt dd_MD_made 9 rfl) rfl ?_
      refine v_tswIn G 76 (decAt dd_MD_made 10 rfl) (by decide) (by decide) rfl (by decide) ?_
      refine v_iload_n G (decAt dd_MD_made 15 rfl) rfl ?_
      refine v_iload_n G (decAt dd_MD_made 16 rfl) rfl ?_
      refine v_isub G (decAt dd_MD_made 17 rfl) ?_
      exact p_iret G (decAt dd_MD_made 18 rfl) rfl (some_i (by first | rfl | (subst c86; exact (div_m1 _).symm) | (subst c100; exact (rem_m1 _).symm) | (cases far <;> simp_all [opr, shf, bI]; done) | (cases far with | true => simp_all [opr, shf, bI] | false => (show _ = shf _ _ _; unfold shf; rw [if_neg (fun z => absurd (hfar.mpr z) (by decide))]; rfl))))
    · skip
      refine v_iload_n G (decAt dd_MD_made 9 rfl) rfl ?_
      refine v_tswIn G 80 (decAt dd_MD_made 10 rfl) (by decide) (by decide) rfl (by decide) ?_
      refine v_iload_n G (decAt dd_MD_made 19 rfl) rfl ?_
      refine v_iload_n G (decAt dd_MD_made 20 rfl) rfl ?_
      refine v_imul G (decAt dd_MD_made 21 rfl) ?_
      exact p_iret G (decAt dd_MD_made 22 rfl) rfl (some_i (by first | rfl | (subst c86; exact (div_m1 _).symm) | (subst c100; exact (rem_m1 _).symm) | (cases far <;> simp_all [opr, shf, bI]; done) | (cases far with | true => simp_all [opr, shf, bI] | false => (show _ = shf _ _ _; unfold shf; rw [if_neg (fun z => absurd (hfar.mpr z) (by decide))]; rfl))))
    · skip
      refine v_iload_n G (decAt dd_MD_made 9 rfl) rfl ?_
      refine v_tswIn G 84 (decAt dd_MD_made 10 rfl) (by decide) (by decide) rfl (by decide) ?_
      refine v_iload_n G (decAt dd_MD_made 23 rfl) rfl ?_
      refine v_iconst G (-1) (decAt dd_MD_made 24 rfl) (by decide) ?_
      refine v_icmp_ne G 94 (decAt dd_MD_made 25 rfl) (by decide) (fun c86 => ?_) (fun c86 => ?_)
      · skip
        refine v_iload_n G (decAt dd_MD_made 29 rfl) rfl ?_
        refine v_iload_n G (decAt dd_MD_made 30 rfl) rfl ?_
        refine v_idiv G (decAt dd_MD_made 31 rfl) (hz (Or.inl rfl)) ?_
        exact p_iret G (decAt dd_MD_made 32 rfl) rfl (some_i (by first | rfl | (subst c86; exact (div_m1 _).symm) | (subst c100; exact (rem_m1 _).symm) | (cases far <;> simp_all [opr, shf, bI]; done) | (cases far with | true => simp_all [opr, shf, bI] | false => (show _ = shf _ _ _; unfold shf; rw [if_neg (fun z => absurd (hfar.mpr z) (by decide))]; rfl))))
      · skip
        refine v_iload_n G (decAt dd_MD_made 26 rfl) rfl ?_
        refine v_ineg G (decAt dd_MD_made 27 rfl) ?_
        refine v_goto G 97 (decAt dd_MD_made 28 rfl) (by decide) ?_
        exact p_iret G (decAt dd_MD_made 32 rfl) rfl (some_i (by first | rfl | (subst c86; exact (div_m1 _).symm) | (subst c100; exact (rem_m1 _).symm) | (cases far <;> simp_all [opr, shf, bI]; done) | (cases far with | true => simp_all [opr, shf, bI] | false => (show _ = shf _ _ _; unfold shf; rw [if_neg (fun z => absurd (hfar.mpr z) (by decide))]; rfl))))
    · skip
      refine v_iload_n G (decAt dd_MD_made 9 rfl) rfl ?_
      refine v_tswIn G 98 (decAt dd_MD_made 10 rfl) (by decide) (by decide) rfl (by decide) ?_
      refine v_iload_n G (decAt dd_MD_made 33 rfl) rfl ?_
      refine v_iconst G (-1) (decAt dd_MD_made 34 rfl) (by decide) ?_
      refine v_icmp_ne G 107 (decAt dd_MD_made 35 rfl) (by decide) (fun c100 => ?_) (fun c100 => ?_)
      · skip
        refine v_iload_n G (decAt dd_MD_made 38 rfl) rfl ?_
        refine v_iload_n G (decAt dd_MD_made 39 rfl) rfl ?_
        refine v_irem G (decAt dd_MD_made 40 rfl) (hz (Or.inr rfl)) ?_
        exact p_iret G (decAt dd_MD_made 41 rfl) rfl (some_i (by first | rfl | (subst c86; exact (div_m1 _).symm) | (subst c100; exact (rem_m1 _).symm) | (cases far <;> simp_all [opr, shf, bI]; done) | (cases far with | true => simp_all [opr, shf, bI] | false => (show _ = shf _ _ _; unfold shf; rw [if_neg (fun z => absurd (hfar.mpr z) (by decide))]; rfl))))
      · skip
        refine v_iconst G 0 (decAt dd_MD_made 36 rfl) (by decide) ?_
        refine v_goto G 110 (decAt dd_MD_made 37 rfl) (by decide) ?_
        exact p_iret G (decAt dd_MD_made 41 rfl) rfl (some_i (by first | rfl | (subst c86; exact (div_m1 _).symm) | (subst c100; exact (rem_m1 _).symm) | (cases far <;> simp_all [opr, shf, bI]; done) | (cases far with | true => simp_all [opr, shf, bI] | false => (show _ = shf _ _ _; unfold shf; rw [if_neg (fun z => absurd (hfar.mpr z) (by decide))]; rfl))))
    · skip
      refine v_iload_n G (decAt dd_MD_made 9 rfl) rfl ?_
      refine v_tswIn G 111 (decAt dd_MD_made 10 rfl) (by decide) (by decide) rfl (by decide) ?_
      refine v_iload_n G (decAt dd_MD_made 42 rfl) rfl ?_
      refine v_iload_n G (decAt dd_MD_made 43 rfl) rfl ?_
      refine v_iand G (decAt dd_MD_made 44 rfl) ?_
      exact p_iret G (decAt dd_MD_made 45 rfl) rfl (some_i (by first | rfl | (subst c86; exact (div_m1 _).symm) | (subst c100; exact (rem_m1 _).symm) | (cases far <;> simp_all [opr, shf, bI]; done) | (cases far with | true => simp_all [opr, shf, bI] | false => (show _ = shf _ _ _; unfold shf; rw [if_neg (fun z => absurd (hfar.mpr z) (by decide))]; rfl))))
    · skip
      refine v_iload_n G (decAt dd_MD_made 9 rfl) rfl ?_
      refine v_tswIn G 115 (decAt dd_MD_made 10 rfl) (by decide) (by decide) rfl (by decide) ?_
      refine v_iload_n G (decAt dd_MD_made 46 rfl) rfl ?_
      refine v_iload_n G (decAt dd_MD_made 47 rfl) rfl ?_
      refine v_ior G (decAt dd_MD_made 48 rfl) ?_
      exact p_iret G (decAt dd_MD_made 49 rfl) rfl (some_i (by first | rfl | (subst c86; exact (div_m1 _).symm) | (subst c100; exact (rem_m1 _).symm) | (cases far <;> simp_all [opr, shf, bI]; done) | (cases far with | true => simp_all [opr, shf, bI] | false => (show _ = shf _ _ _; unfold shf; rw [if_neg (fun z => absurd (hfar.mpr z) (by decide))]; rfl))))
    · skip
      refine v_iload_n G (decAt dd_MD_made 9 rfl) rfl ?_
      refine v_tswIn G 119 (decAt dd_MD_made 10 rfl) (by decide) (by decide) rfl (by decide) ?_
      refine v_iload_n G (decAt dd_MD_made 50 rfl) rfl ?_
      refine v_iload_n G (decAt dd_MD_made 51 rfl) rfl ?_
      refine v_ixor G (decAt dd_MD_made 52 rfl) ?_
      refine v_iconst G (-1) (decAt dd_MD_made 53 rfl) (by decide) ?_
      refine v_ixor G (decAt dd_MD_made 54 rfl) ?_
      exact p_iret G (decAt dd_MD_made 55 rfl) rfl (some_i (by first | rfl | (subst c86; exact (div_m1 _).symm) | (subst c100; exact (rem_m1 _).symm) | (cases far <;> simp_all [opr, shf, bI]; done) | (cases far with | true => simp_all [opr, shf, bI] | false => (show _ = shf _ _ _; unfold shf; rw [if_neg (fun z => absurd (hfar.mpr z) (by decide))]; rfl))))
    · skip
      refine v_iload_n G (decAt dd_MD_made 9 rfl) rfl ?_
      refine v_tswIn G 125 (decAt dd_MD_made 10 rfl) (by decide) (by decide) rfl (by decide) ?_
      refine v_iload_n G (decAt dd_MD_made 56 rfl) rfl ?_
      refine v_iload_n G (decAt dd_MD_made 57 rfl) rfl ?_
      refine v_ixor G (decAt dd_MD_made 58 rfl) ?_
      exact p_iret G (decAt dd_MD_made 59 rfl) rfl (some_i (by first | rfl | (subst c86; exact (div_m1 _).symm) | (subst c100; exact (rem_m1 _).symm) | (cases far <;> simp_all [opr, shf, bI]; done) | (cases far with | true => simp_all [opr, shf, bI] | false => (show _ = shf _ _ _; unfold shf; rw [if_neg (fun z => absurd (hfar.mpr z) (by decide))]; rfl))))
    · skip
      refine v_iload_n G (decAt dd_MD_made 9 rfl) rfl ?_
      refine v_tswIn G 129 (decAt dd_MD_made 10 rfl) (by decide) (by decide) rfl (by decide) ?_
      refine v_iload_n G (decAt dd_MD_made 60 rfl) rfl ?_
      refine v_if_eq G 137 (decAt dd_MD_made 61 rfl) (by decide) (fun c130 => ?_) (fun c130 => ?_)
      · skip
        refine v_iload_n G (decAt dd_MD_made 64 rfl) rfl ?_
        refine v_iload_n G (decAt dd_MD_made 65 rfl) rfl ?_
        refine v_ishl G (decAt dd_MD_made 66 rfl) ?_
        exact p_iret G (decAt dd_MD_made 67 rfl) rfl (some_i (by first | rfl | (subst c86; exact (div_m1 _).symm) | (subst c100; exact (rem_m1 _).symm) | (cases far <;> simp_all [opr, shf, bI]; done) | (cases far with | true => simp_all [opr, shf, bI] | false => (show _ = shf _ _ _; unfold shf; rw [if_neg (fun z => absurd (hfar.mpr z) (by decide))]; rfl))))
      · skip
        refine v_iconst G 0 (decAt dd_MD_made 62 rfl) (by decide) ?_
        refine v_goto G 140 (decAt dd_MD_made 63 rfl) (by decide) ?_
        exact p_iret G (decAt dd_MD_made 67 rfl) rfl (some_i (by first | rfl | (subst c86; exact (div_m1 _).symm) | (subst c100; exact (rem_m1 _).symm) | (cases far <;> simp_all [opr, shf, bI]; done) | (cases far with | true => simp_all [opr, shf, bI] | false => (show _ = shf _ _ _; unfold shf; rw [if_neg (fun z => absurd (hfar.mpr z) (by decide))]; rfl))))
    · skip
      refine v_iload_n G (decAt dd_MD_made 9 rfl) rfl ?_
      refine v_tswOut G 141 (decAt dd_MD_made 10 rfl) (by decide) (by decide) ?_
      refine v_iload_n G (decAt dd_MD_made 68 rfl) rfl ?_
      refine v_if_eq G 149 (decAt dd_MD_made 69 rfl) (by decide) (fun c142 => ?_) (fun c142 => ?_)
      · skip
        refine v_iload_n G (decAt dd_MD_made 72 rfl) rfl ?_
        refine v_iload_n G (decAt dd_MD_made 73 rfl) rfl ?_
        refine v_iushr G (decAt dd_MD_made 74 rfl) ?_
        exact p_iret G (decAt dd_MD_made 75 rfl) rfl (some_i (by first | rfl | (subst c86; exact (div_m1 _).symm) | (subst c100; exact (rem_m1 _).symm) | (cases far <;> simp_all [opr, shf, bI]; done) | (cases far with | true => simp_all [opr, shf, bI] | false => (show _ = shf _ _ _; unfold shf; rw [if_neg (fun z => absurd (hfar.mpr z) (by decide))]; rfl))))
      · skip
        refine v_iconst G 0 (decAt dd_MD_made 70 rfl) (by decide) ?_
        refine v_goto G 152 (decAt dd_MD_made 71 rfl) (by decide) ?_
        exact p_iret G (decAt dd_MD_made 75 rfl) rfl (some_i (by first | rfl | (subst c86; exact (div_m1 _).symm) | (subst c100; exact (rem_m1 _).symm) | (cases far <;> simp_all [opr, shf, bI]; done) | (cases far with | true => simp_all [opr, shf, bI] | false => (show _ = shf _ _ _; unfold shf; rw [if_neg (fun z => absurd (hfar.mpr z) (by decide))]; rfl))))
  refine v_iload_n G (decAt dd_MD_made 0 rfl) rfl ?_
  refine v_if_lt G 10 (decAt dd_MD_made 1 rfl) (by decide) (fun c1 => ?_) (fun c1 => ?_)
  · skip
    refine v_iconst G 1 (decAt dd_MD_made 5 rfl) (by decide) ?_
    refine v_goto G 15 (decAt dd_MD_made 6 rfl) (by decide) ?_
    refine v_istore_3 G (decAt dd_MD_made 8 rfl) (by decide) rfl ?_
    exact J true (by first | simp_all | (simp; exact ⟨i32_in c1, c7⟩))
  · skip
    refine v_iload_n G (decAt dd_MD_made 2 rfl) rfl ?_
    refine v_bipush G 31 (decAt dd_MD_made 3 rfl) (by decide) ?_
    refine v_icmp_le G 14 (decAt dd_MD_made 4 rfl) (by decide) (fun c7 => ?_) (fun c7 => ?_)
    · skip
      refine v_iconst G 0 (decAt dd_MD_made 7 rfl) (by decide) ?_
      refine v_istore_3 G (decAt dd_MD_made 8 rfl) (by decide) rfl ?_
      exact J false (by first | simp_all | (simp; exact ⟨i32_in c1, c7⟩))
    · skip
      refine v_iconst G 1 (decAt dd_MD_made 5 rfl) (by decide) ?_
      refine v_goto G 15 (decAt dd_MD_made 6 rfl) (by decide) ?_
      refine v_istore_3 G (decAt dd_MD_made 8 rfl) (by decide) rfl ?_
      exact J true (by first | simp_all | (simp; exact ⟨i32_in c1, c7⟩))
set_option maxHeartbeats 4000000 in
theorem c_MD_wordOf (l : Launch) {E : Bs} (hE : Hb E) {x y : Int32} : CP l E y_MD_wordOf b_MD_wordOf 4 (some .int) ({ frames := 0, cells := 0, slots := 0, locals := 0 } : Room) [.int x, .int y] (fun r => r = some (.int (if isW (wAt x y) then nI (wAt x y).toNat else -1))) := by
  refine CP.start0 [some (.int x), some (.int y), none, none] hE (by decide) (Nat.le_of_ble_eq_true rfl) rfl ?_
  intro p e s m args below meth c G
  refine v_iload_n G (decAt dd_MD_wordOf 0 rfl) rfl ?_
  refine v_i2l G (decAt dd_MD_wordOf 1 rfl) ?_
  refine v_iload_n G (decAt dd_MD_wordOf 2 rfl) rfl ?_
  refine v_iconst G 2 (decAt dd_MD_wordOf 3 rfl) (by decide) ?_
  refine v_ishr G (decAt dd_MD_wordOf 4 rfl) ?_
  refine v_i2l G (decAt dd_MD_wordOf 5 rfl) ?_
  refine v_ladd G (decAt dd_MD_wordOf 6 rfl) ?_
  refine v_lstore_2 G (decAt dd_MD_wordOf 7 rfl) (by decide) rfl ?_
  refine v_L (L' := [some (.int x), some (.int y), some (.long (x.toInt64 + (y >>> ((2 : Int32) &&& 31)).toInt64)), none]) (fun _ _ h => h) ?_
  generalize hT : x.toInt64 + (y >>> ((2 : Int32) &&& 31)).toInt64 = T
  have hTi : T.toInt = wAt x y := by rw [← hT]; exact wAt_64 x y
  refine v_lload_n G (decAt dd_MD_wordOf 8 rfl) rfl ?_
  refine v_lconst G 0 (decAt dd_MD_wordOf 9 rfl) (by decide) ?_
  refine v_lcmp G (decAt dd_MD_wordOf 10 rfl) ?_
  refine v_if_lt G 22 (decAt dd_MD_wordOf 11 rfl) (by decide) (fun c11 => ?_) (fun c11 => ?_)
  · skip
    have c11 := Int64.lt_iff_toInt_lt.mp ((lgc_lt _ _).mp c11)
    rw [i64_0] at c11
    refine v_iconst G (-1) (decAt dd_MD_wordOf 16 rfl) (by decide) ?_
    refine v_goto G 28 (decAt dd_MD_wordOf 17 rfl) (by decide) ?_
    exact p_iret G (decAt dd_MD_wordOf 20 rfl) rfl (some_i (by
      first
        | (rw [if_neg (fun z => by have := of_decide_eq_true z; omega)]; done)
        | (rw [if_pos (show isW (wAt x y) = true from decide_eq_true ⟨by omega, by omega⟩)]; apply Int32.toInt_inj.mp; rw [nI_toInt (by omega), Int64.toInt_toInt32, hTi, Int.bmod_eq_of_le] <;> omega)))
  · skip
    refine v_lload_n G (decAt dd_MD_wordOf 12 rfl) rfl ?_
    refine v_ldc2 G (decAt dd_MD_wordOf 13 rfl) tm_889 ?_
    refine v_lcmp G (decAt dd_MD_wordOf 14 rfl) ?_
    refine v_if_le G 26 (decAt dd_MD_wordOf 15 rfl) (by decide) (fun c19 => ?_) (fun c19 => ?_)
    · skip
      have c11 : ¬ T.toInt < 0 := fun z => c11 ((lgc_lt _ _).mpr (Int64.lt_iff_toInt_lt.mpr z))
      have c19 := Int64.le_iff_toInt_le.mp ((lgc_le _ _).mp c19)
      rw [i64_63] at c19
      refine v_lload_n G (decAt dd_MD_wordOf 18 rfl) rfl ?_
      refine v_l2i G (decAt dd_MD_wordOf 19 rfl) ?_
      exact p_iret G (decAt dd_MD_wordOf 20 rfl) rfl (some_i (by
        first
          | (rw [if_neg (fun z => by have := of_decide_eq_true z; omega)]; done)
          | (rw [if_pos (show isW (wAt x y) = true from decide_eq_true ⟨by omega, by omega⟩)]; apply Int32.toInt_inj.mp; rw [nI_toInt (by omega), Int64.toInt_toInt32, hTi, Int.bmod_eq_of_le] <;> omega)))
    · skip
      have c19 : ¬ T.toInt ≤ 63 := fun z => c19 ((lgc_le _ _).mpr (Int64.le_iff_toInt_le.mpr z))
      refine v_iconst G (-1) (decAt dd_MD_wordOf 16 rfl) (by decide) ?_
      refine v_goto G 28 (decAt dd_MD_wordOf 17 rfl) (by decide) ?_
      exact p_iret G (decAt dd_MD_wordOf 20 rfl) rfl (some_i (by
        first
          | (rw [if_neg (fun z => by have := of_decide_eq_true z; omega)]; done)
          | (rw [if_pos (show isW (wAt x y) = true from decide_eq_true ⟨by omega, by omega⟩)]; apply Int32.toInt_inj.mp; rw [nI_toInt (by omega), Int64.toInt_toInt32, hTi, Int.bmod_eq_of_le] <;> omega)))
