/-! words of lines -/
/-- an instruction's word but for its number -/
def bas (i : Nat) : Int32 := match i with
  | 0 => 268435456
  | 1 => 402653184
  | 2 => 469762048
  | 5 => 436207616
  | 6 => 570425344
  | 7 => 603979776
  | 9 => 1879048192
  | 12 => 1073741824
  | 13 => 805306368
  | 15 => 1342177280
  | _ => 0
def isL (i : Nat) : Bool := i == 1 || i == 12 || i == 13 || i == 15
def enc (i : Nat) (v : Int32) : Int32 := bas i ||| (v &&& 33554431)
theorem dec_head (v : Int32) : ∃ d r, dec v ++ [10] = d :: r ∧ (d = 45 ∨ ∃ x, x < 10 ∧ d = nI (48 + x)) := by
  unfold dec
  by_cases h : v < 0
  · rw [if_pos h]
    exact ⟨45, _, rfl, Or.inl rfl⟩
  · rw [if_neg h, List.nil_append]
    cases hk : lgt 10 v.toInt.natAbs with
    | zero => exact ⟨_, _, rfl, Or.inr ⟨_, Nat.mod_lt _ (by omega), rfl⟩⟩
    | succ k => exact ⟨_, _, rfl, Or.inr ⟨_, Nat.mod_lt _ (by omega), rfl⟩⟩
theorem dh_ne {d : Int32} (h : d = 45 ∨ ∃ x, x < 10 ∧ d = nI (48 + x)) : ¬ d = 73 ∧ ¬ d = 80 ∧ ¬ d = 81 ∧ ¬ d = 76 := by
  rcases h with rfl | ⟨x, hx, rfl⟩
  · decide
  · have : ∀ x, x < 10 → ¬ nI (48 + x) = 73 ∧ ¬ nI (48 + x) = 80 ∧ ¬ nI (48 + x) = 81 ∧ ¬ nI (48 + x) = 76 := by decide +kernel
    exact this x hx

