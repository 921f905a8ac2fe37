/-! the plain form: its small methods -/
theorem bI0 (b : Bool) : (bI b = 0) = (b = false) := by cases b <;> simp [bI]
abbrev MN (n : Nat → Nat) : Prop := n 29 = 400 ∧ n 30 = 400 ∧ n 31 = 16 ∧ n 32 = 64 ∧ n 33 = 400 ∧ n 34 = 400 ∧ n 35 = 61
/-- where a label is, looked for from i on; NONE -/
def plcG (num arg : Nat → Int32) (lab : Int32) : Nat → Nat → Int32
  | 0, _ => -1
  | d + 1, i => if num i = 13 ∧ arg i = lab then nI i else plcG num arg lab d (i + 1)
def plcI (num arg : Nat → Int32) (sz : Nat) (lab : Int32) : Int32 := plcG num arg lab sz 0
/-- a way from instruction i: 0 on, else to a label -/
def wayI (num arg : Nat → Int32) (sz i : Nat) (w : Int32) : Int32 :=
  if w = 0 then (if num i = 16 ∨ num i = 17 ∨ num i = 10 then -1 else if num i = 18 then nI (i + 2) else nI (i + 1))
  else if 10 ≤ num i ∧ num i ≤ 12 then plcI num arg sz (arg i) else if num i = 18 then plcI num arg sz (arg (i + 1)) else -1
theorem in_t {x lo hi : Int32} (h : lo ≤ x ∧ x ≤ hi) : bI (decide (lo ≤ x ∧ x ≤ hi)) = 1 := bI_t (decide_eq_true h)
theorem in_f {x lo hi : Int32} (h : ¬ (lo ≤ x ∧ x ≤ hi)) : bI (decide (lo ≤ x ∧ x ≤ hi)) = 0 := bI_f (decide_eq_false h)
theorem nI_in0 {j k : Nat} (h : j ≤ k) (hk : k < 2147483648) : (0 : Int32) ≤ nI j ∧ nI j ≤ nI k := ⟨nI_pos' (by omega), nI_le h hk⟩

set_option maxHeartbeats 4000000 in
theorem c_MD_thrown (l : Launch) {E : Bs} (hE : Hb E) {ρ : Nat → Nat} {g A : Nat → Nat → Int32} {n : Nat → Nat} {tx : Value}  : CW l E DM AM y_MD_thrown b_MD_thrown 1 (some .int) ({ frames := 0, cells := 0, slots := 0, locals := 0 } : Room) [.ref (E.o 6)] ρ g A n tx (fun r ρ' g' A' n' tx' => r = some (.int (g 6 0)) ∧ ρ' = ρ ∧ g' = g ∧ A' = A ∧ n' = n ∧ tx' = tx) := by
  refine CW.start [some (.ref (E.o 6))] hE (by decide) (Nat.le_of_ble_eq_true rfl) rfl ?_
  intro p e s m args below meth c G
  refine v_aload_n G (decAt dd_MD_thrown 0 rfl) rfl ?_
  refine v_geti G (decAt dd_MD_thrown 1 rfl) f_MD_32 ?_
  exact v_iret G (decAt dd_MD_thrown 2 rfl) rfl ⟨rfl, rfl, rfl, rfl, rfl, rfl⟩
set_option maxHeartbeats 4000000 in
theorem c_MD_add (l : Launch) {E : Bs} (hE : Hb E) {ρ : Nat → Nat} {g A : Nat → Nat → Int32} {n : Nat → Nat} {tx : Value} {num k : Int32} {sz : Nat} (hn : MN n) (hs : g 6 1 = nI sz) (hsz : sz < 400) : CW l E DM AM y_MD_add b_MD_add 3 (some .int) ({ frames := 0, cells := 0, slots := 0, locals := 0 } : Room) [.ref (E.o 6), .int num, .int k] ρ g A n tx (fun r ρ' g' A' n' tx' => r = some (.int (nI (sz + 1))) ∧ ρ' = ρ ∧ g' = up2 (up2 g 6 0 0) 6 1 (nI (sz + 1)) ∧ A' = va_up (va_up A 29 (va_up (A 29) sz num)) 30 (va_up (A 30) sz k) ∧ n' = n ∧ tx' = tx) := by
  obtain ⟨hn1, hn2, hn3, hn4, hn5, hn6, hn7⟩ := hn
  refine CW.start [some (.ref (E.o 6)), some (.int num), some (.int k)] hE (by decide) (Nat.le_of_ble_eq_true rfl) rfl ?_
  intro p e s m args below meth c G
  refine v_aload_n G (decAt dd_MD_add 0 rfl) rfl ?_
  refine v_iconst G 0 (decAt dd_MD_add 1 rfl) (by decide) ?_
  refine v_puti G (decAt dd_MD_add 2 rfl) f_MD_32 rfl rfl rfl ?_
  refine v_aload_n G (decAt dd_MD_add 3 rfl) rfl ?_
  refine v_geti G (decAt dd_MD_add 4 rfl) f_MD_36 ?_
  refine v_ri (y := (nI sz)) hs ?_
  refine v_sipush G 400 (decAt dd_MD_add 5 rfl) (by decide) ?_
  refine v_icmp_ne G 17 (decAt dd_MD_add 6 rfl) (by decide) (fun c12 => ?_) (fun c12 => ?_)
  · skip
    refine v_aload_n G (decAt dd_MD_add 9 rfl) rfl ?_
    refine v_geta G (decAt dd_MD_add 10 rfl) f_MD_7 ?_
    refine v_aload_n G (decAt dd_MD_add 11 rfl) rfl ?_
    refine v_geti G (decAt dd_MD_add 12 rfl) f_MD_36 ?_
    refine v_ri (y := (nI sz)) hs ?_
    refine v_iload_n G (decAt dd_MD_add 13 rfl) rfl ?_
    refine v_iast G 29 _ (decAt dd_MD_add 14 rfl) (by decide) rfl (by first | with_reducible rfl | with_reducible exact nI_1 _ | with_reducible exact nI_add _ _ | assumption) (by omega) ?_
    refine v_aload_n G (decAt dd_MD_add 15 rfl) rfl ?_
    refine v_geta G (decAt dd_MD_add 16 rfl) f_MD_13 ?_
    refine v_aload_n G (decAt dd_MD_add 17 rfl) rfl ?_
    refine v_geti G (decAt dd_MD_add 18 rfl) f_MD_36 ?_
    refine v_ri (y := (nI sz)) hs ?_
    refine v_iload_n G (decAt dd_MD_add 19 rfl) rfl ?_
    refine v_iast G 30 _ (decAt dd_MD_add 20 rfl) (by decide) rfl (by first | with_reducible rfl | with_reducible exact nI_1 _ | with_reducible exact nI_add _ _ | assumption) (by omega) ?_
    refine v_aload_n G (decAt dd_MD_add 21 rfl) rfl ?_
    refine v_dup G (decAt dd_MD_add 22 rfl) rfl ?_
    refine v_geti G (decAt dd_MD_add 23 rfl) f_MD_36 ?_
    refine v_ri (y := (nI sz)) hs ?_
    refine v_iconst G 1 (decAt dd_MD_add 24 rfl) (by decide) ?_
    refine v_iadd G (decAt dd_MD_add 25 rfl) ?_
    refine v_ri (y := (nI (sz + 1))) (nI_1 sz) ?_
    refine v_puti G (decAt dd_MD_add 26 rfl) f_MD_36 rfl rfl rfl ?_
    refine v_aload_n G (decAt dd_MD_add 27 rfl) rfl ?_
    refine v_geti G (decAt dd_MD_add 28 rfl) f_MD_36 ?_
    refine v_ri (y := (nI (sz + 1))) rfl ?_
    exact v_iret G (decAt dd_MD_add 29 rfl) rfl ⟨rfl, rfl, rfl, rfl, rfl, rfl⟩
  · skip
    exact absurd c12 (fun z => by have := (nI_eq (a := sz) (b := 400) (by omega) (by omega)).mp z; omega)
set_option maxHeartbeats 4000000 in
theorem c_MD_clear (l : Launch) {E : Bs} (hE : Hb E) {ρ : Nat → Nat} {g A : Nat → Nat → Int32} {n : Nat → Nat} {tx : Value}  : CW l E DM AM y_MD_clear b_MD_clear 1 none ({ frames := 0, cells := 0, slots := 0, locals := 0 } : Room) [.ref (E.o 6)] ρ g A n tx (fun r ρ' g' A' n' tx' => r = none ∧ ρ' = ρ ∧ g' = up2 (up2 g 6 0 0) 6 1 0 ∧ A' = A ∧ n' = n ∧ tx' = tx) := by
  refine CW.start [some (.ref (E.o 6))] hE (by decide) (Nat.le_of_ble_eq_true rfl) rfl ?_
  intro p e s m args below meth c G
  refine v_aload_n G (decAt dd_MD_clear 0 rfl) rfl ?_
  refine v_iconst G 0 (decAt dd_MD_clear 1 rfl) (by decide) ?_
  refine v_puti G (decAt dd_MD_clear 2 rfl) f_MD_32 rfl rfl rfl ?_
  refine v_aload_n G (decAt dd_MD_clear 3 rfl) rfl ?_
  refine v_iconst G 0 (decAt dd_MD_clear 4 rfl) (by decide) ?_
  refine v_puti G (decAt dd_MD_clear 5 rfl) f_MD_36 rfl rfl rfl ?_
  exact v_vret G (decAt dd_MD_clear 6 rfl) rfl ⟨rfl, rfl, rfl, rfl, rfl, rfl⟩
set_option maxHeartbeats 4000000 in
theorem c_MD_value (l : Launch) {E : Bs} (hE : Hb E) {ρ : Nat → Nat} {g A : Nat → Nat → Int32} {n : Nat → Nat} {tx : Value}  : CW l E DM AM y_MD_value b_MD_value 1 (some .int) ({ frames := 0, cells := 0, slots := 0, locals := 0 } : Room) [.ref (E.o 6)] ρ g A n tx (fun r ρ' g' A' n' tx' => r = some (.int (g 6 6)) ∧ ρ' = ρ ∧ g' = up2 g 6 0 0 ∧ A' = A ∧ n' = n ∧ tx' = tx) := by
  refine CW.start [some (.ref (E.o 6))] hE (by decide) (Nat.le_of_ble_eq_true rfl) rfl ?_
  intro p e s m args below meth c G
  refine v_aload_n G (decAt dd_MD_value 0 rfl) rfl ?_
  refine v_iconst G 0 (decAt dd_MD_value 1 rfl) (by decide) ?_
  refine v_puti G (decAt dd_MD_value 2 rfl) f_MD_32 rfl rfl rfl ?_
  refine v_aload_n G (decAt dd_MD_value 3 rfl) rfl ?_
  refine v_geti G (decAt dd_MD_value 4 rfl) f_MD_106 ?_
  refine v_ri (y := g 6 6) rfl ?_
  exact v_iret G (decAt dd_MD_value 5 rfl) rfl ⟨rfl, rfl, rfl, rfl, rfl, rfl⟩
set_option maxHeartbeats 4000000 in
theorem c_MD_fuel (l : Launch) {E : Bs} (hE : Hb E) {ρ : Nat → Nat} {g A : Nat → Nat → Int32} {n : Nat → Nat} {tx : Value}  : CW l E DM AM y_MD_fuel b_MD_fuel 1 (some .int) ({ frames := 0, cells := 0, slots := 0, locals := 0 } : Room) [.ref (E.o 6)] ρ g A n tx (fun r ρ' g' A' n' tx' => r = some (.int (g 6 7)) ∧ ρ' = ρ ∧ g' = up2 g 6 0 0 ∧ A' = A ∧ n' = n ∧ tx' = tx) := by
  refine CW.start [some (.ref (E.o 6))] hE (by decide) (Nat.le_of_ble_eq_true rfl) rfl ?_
  intro p e s m args below meth c G
  refine v_aload_n G (decAt dd_MD_fuel 0 rfl) rfl ?_
  refine v_iconst G 0 (decAt dd_MD_fuel 1 rfl) (by decide) ?_
  refine v_puti G (decAt dd_MD_fuel 2 rfl) f_MD_32 rfl rfl rfl ?_
  refine v_aload_n G (decAt dd_MD_fuel 3 rfl) rfl ?_
  refine v_geti G (decAt dd_MD_fuel 4 rfl) f_MD_103 ?_
  refine v_ri (y := g 6 7) rfl ?_
  exact v_iret G (decAt dd_MD_fuel 5 rfl) rfl ⟨rfl, rfl, rfl, rfl, rfl, rfl⟩
set_option maxHeartbeats 4000000 in
theorem c_MD_set_in (l : Launch) {E : Bs} (hE : Hb E) {ρ : Nat → Nat} {g A : Nat → Nat → Int32} {n : Nat → Nat} {tx : Value} {v : Int32} {j : Nat} (hn : MN n) (hj : j < 16) : CW l E DM AM y_MD_set b_MD_set 4 (some .int) ({ frames := 1, cells := 0, slots := 0, locals := 22 } : Room) [.ref (E.o 6), .int (nI j), .int v] ρ g A n tx (fun r ρ' g' A' n' tx' => r = some (.int (A 31 j)) ∧ ρ' = ρ ∧ g' = up2 g 6 0 0 ∧ A' = va_up A 31 (va_up (A 31) j v) ∧ n' = n ∧ tx' = tx) := by
  obtain ⟨hn1, hn2, hn3, hn4, hn5, hn6, hn7⟩ := hn
  refine CW.start [some (.ref (E.o 6)), some (.int (nI j)), some (.int v), none] hE (by decide) (Nat.le_of_ble_eq_true rfl) rfl ?_
  intro p e s m args below meth c G
  refine v_aload_n G (decAt dd_MD_set 0 rfl) rfl ?_
  refine v_iconst G 0 (decAt dd_MD_set 1 rfl) (by decide) ?_
  refine v_puti G (decAt dd_MD_set 2 rfl) f_MD_32 rfl rfl rfl ?_
  refine v_iload_n G (decAt dd_MD_set 3 rfl) rfl ?_
  refine v_iconst G 0 (decAt dd_MD_set 4 rfl) (by decide) ?_
  refine v_bipush G 15 (decAt dd_MD_set 5 rfl) (by decide) ?_
  refine p_callSi G (XB_Sy G) (As := [.int (nI j), .int 0, .int 15]) (decAt dd_MD_set 6 rfl) k_MD_39 (c_MD_in l hE) rfl rfl (Nat.le_of_ble_eq_true rfl) (by decide) rfl rfl (by decide) ?_
  refine v_ri (y := 1) (in_t (nI_in0 (k := 15) (by omega) (by omega))) ?_
  refine v_if_ne G 17 (decAt dd_MD_set 7 rfl) (by decide) (fun c12 => ?_) (fun c12 => ?_)
  · skip
    refine v_aload_n G (decAt dd_MD_set 10 rfl) rfl ?_
    refine v_geta G (decAt dd_MD_set 11 rfl) f_MD_16 ?_
    refine v_iload_n G (decAt dd_MD_set 12 rfl) rfl ?_
    refine v_iald G 31 _ (decAt dd_MD_set 13 rfl) (by decide) rfl (by first | with_reducible rfl | with_reducible exact nI_1 _ | with_reducible exact nI_add _ _ | assumption) (by omega) ?_
    refine v_istore_3 G (decAt dd_MD_set 14 rfl) (by decide) rfl ?_
    refine v_aload_n G (decAt dd_MD_set 15 rfl) rfl ?_
    refine v_geta G (decAt dd_MD_set 16 rfl) f_MD_16 ?_
    refine v_iload_n G (decAt dd_MD_set 17 rfl) rfl ?_
    refine v_iload_n G (decAt dd_MD_set 18 rfl) rfl ?_
    refine v_iast G 31 _ (decAt dd_MD_set 19 rfl) (by decide) rfl (by first | with_reducible rfl | with_reducible exact nI_1 _ | with_reducible exact nI_add _ _ | assumption) (by omega) ?_
    refine v_iload_n G (decAt dd_MD_set 20 rfl) rfl ?_
    exact v_iret G (decAt dd_MD_set 21 rfl) rfl ⟨rfl, rfl, rfl, rfl, rfl, rfl⟩
  · skip
    exact absurd c12 (by decide)
set_option maxHeartbeats 4000000 in
theorem c_MD_set_out (l : Launch) {E : Bs} (hE : Hb E) {ρ : Nat → Nat} {g A : Nat → Nat → Int32} {n : Nat → Nat} {tx : Value} {x v : Int32} (hj : ¬ (0 ≤ x ∧ x ≤ 15)) : CW l E DM AM y_MD_set b_MD_set 4 (some .int) ({ frames := 1, cells := 0, slots := 0, locals := 22 } : Room) [.ref (E.o 6), .int x, .int v] ρ g A n tx (fun r ρ' g' A' n' tx' => r = some (.int 0) ∧ ρ' = ρ ∧ g' = up2 g 6 0 0 ∧ A' = A ∧ n' = n ∧ tx' = tx) := by
  refine CW.start [some (.ref (E.o 6)), some (.int x), some (.int v), none] hE (by decide) (Nat.le_of_ble_eq_true rfl) rfl ?_
  intro p e s m args below meth c G
  refine v_aload_n G (decAt dd_MD_set 0 rfl) rfl ?_
  refine v_iconst G 0 (decAt dd_MD_set 1 rfl) (by decide) ?_
  refine v_puti G (decAt dd_MD_set 2 rfl) f_MD_32 rfl rfl rfl ?_
  refine v_iload_n G (decAt dd_MD_set 3 rfl) rfl ?_
  refine v_iconst G 0 (decAt dd_MD_set 4 rfl) (by decide) ?_
  refine v_bipush G 15 (decAt dd_MD_set 5 rfl) (by decide) ?_
  refine p_callSi G (XB_Sy G) (As := [.int x, .int 0, .int 15]) (decAt dd_MD_set 6 rfl) k_MD_39 (c_MD_in l hE) rfl rfl (Nat.le_of_ble_eq_true rfl) (by decide) rfl rfl (by decide) ?_
  refine v_ri (y := 0) (in_f hj) ?_
  refine v_if_ne G 17 (decAt dd_MD_set 7 rfl) (by decide) (fun c12 => ?_) (fun c12 => ?_)
  · skip
    exact absurd rfl c12
  · skip
    refine v_iconst G 0 (decAt dd_MD_set 8 rfl) (by decide) ?_
    exact v_iret G (decAt dd_MD_set 9 rfl) rfl ⟨rfl, rfl, rfl, rfl, rfl, rfl⟩
set_option maxHeartbeats 4000000 in
theorem c_MD_put_in (l : Launch) {E : Bs} (hE : Hb E) {ρ : Nat → Nat} {g A : Nat → Nat → Int32} {n : Nat → Nat} {tx : Value} {v : Int32} {j : Nat} (hn : MN n) (hj : j < 64) : CW l E DM AM y_MD_put b_MD_put 4 (some .int) ({ frames := 1, cells := 0, slots := 0, locals := 22 } : Room) [.ref (E.o 6), .int (nI j), .int v] ρ g A n tx (fun r ρ' g' A' n' tx' => r = some (.int (A 32 j)) ∧ ρ' = ρ ∧ g' = up2 g 6 0 0 ∧ A' = va_up A 32 (va_up (A 32) j v) ∧ n' = n ∧ tx' = tx) := by
  obtain ⟨hn1, hn2, hn3, hn4, hn5, hn6, hn7⟩ := hn
  refine CW.start [some (.ref (E.o 6)), some (.int (nI j)), some (.int v), none] hE (by decide) (Nat.le_of_ble_eq_true rfl) rfl ?_
  intro p e s m args below meth c G
  refine v_aload_n G (decAt dd_MD_put 0 rfl) rfl ?_
  refine v_iconst G 0 (decAt dd_MD_put 1 rfl) (by decide) ?_
  refine v_puti G (decAt dd_MD_put 2 rfl) f_MD_32 rfl rfl rfl ?_
  refine v_iload_n G (decAt dd_MD_put 3 rfl) rfl ?_
  refine v_iconst G 0 (decAt dd_MD_put 4 rfl) (by decide) ?_
  refine v_bipush G 63 (decAt dd_MD_put 5 rfl) (by decide) ?_
  refine p_callSi G (XB_Sy G) (As := [.int (nI j), .int 0, .int 63]) (decAt dd_MD_put 6 rfl) k_MD_39 (c_MD_in l hE) rfl rfl (Nat.le_of_ble_eq_true rfl) (by decide) rfl rfl (by decide) ?_
  refine v_ri (y := 1) (in_t (nI_in0 (k := 63) (by omega) (by omega))) ?_
  refine v_if_ne G 17 (decAt dd_MD_put 7 rfl) (by decide) (fun c12 => ?_) (fun c12 => ?_)
  · skip
    refine v_aload_n G (decAt dd_MD_put 10 rfl) rfl ?_
    refine v_geta G (decAt dd_MD_put 11 rfl) f_MD_19 ?_
    refine v_iload_n G (decAt dd_MD_put 12 rfl) rfl ?_
    refine v_iald G 32 _ (decAt dd_MD_put 13 rfl) (by decide) rfl (by first | with_reducible rfl | with_reducible exact nI_1 _ | with_reducible exact nI_add _ _ | assumption) (by omega) ?_
    refine v_istore_3 G (decAt dd_MD_put 14 rfl) (by decide) rfl ?_
    refine v_aload_n G (decAt dd_MD_put 15 rfl) rfl ?_
    refine v_geta G (decAt dd_MD_put 16 rfl) f_MD_19 ?_
    refine v_iload_n G (decAt dd_MD_put 17 rfl) rfl ?_
    refine v_iload_n G (decAt dd_MD_put 18 rfl) rfl ?_
    refine v_iast G 32 _ (decAt dd_MD_put 19 rfl) (by decide) rfl (by first | with_reducible rfl | with_reducible exact nI_1 _ | with_reducible exact nI_add _ _ | assumption) (by omega) ?_
    refine v_iload_n G (decAt dd_MD_put 20 rfl) rfl ?_
    exact v_iret G (decAt dd_MD_put 21 rfl) rfl ⟨rfl, rfl, rfl, rfl, rfl, rfl⟩
  · skip
    exact absurd c12 (by decide)
set_option maxHeartbeats 4000000 in
theorem c_MD_put_out (l : Launch) {E : Bs} (hE : Hb E) {ρ : Nat → Nat} {g A : Nat → Nat → Int32} {n : Nat → Nat} {tx : Value} {x v : Int32} (hj : ¬ (0 ≤ x ∧ x ≤ 63)) : CW l E DM AM y_MD_put b_MD_put 4 (some .int) ({ frames := 1, cells := 0, slots := 0, locals := 22 } : Room) [.ref (E.o 6), .int x, .int v] ρ g A n tx (fun r ρ' g' A' n' tx' => r = some (.int 0) ∧ ρ' = ρ ∧ g' = up2 g 6 0 0 ∧ A' = A ∧ n' = n ∧ tx' = tx) := by
  refine CW.start [some (.ref (E.o 6)), some (.int x), some (.int v), none] hE (by decide) (Nat.le_of_ble_eq_true rfl) rfl ?_
  intro p e s m args below meth c G
  refine v_aload_n G (decAt dd_MD_put 0 rfl) rfl ?_
  refine v_iconst G 0 (decAt dd_MD_put 1 rfl) (by decide) ?_
  refine v_puti G (decAt dd_MD_put 2 rfl) f_MD_32 rfl rfl rfl ?_
  refine v_iload_n G (decAt dd_MD_put 3 rfl) rfl ?_
  refine v_iconst G 0 (decAt dd_MD_put 4 rfl) (by decide) ?_
  refine v_bipush G 63 (decAt dd_MD_put 5 rfl) (by decide) ?_
  refine p_callSi G (XB_Sy G) (As := [.int x, .int 0, .int 63]) (decAt dd_MD_put 6 rfl) k_MD_39 (c_MD_in l hE) rfl rfl (Nat.le_of_ble_eq_true rfl) (by decide) rfl rfl (by decide) ?_
  refine v_ri (y := 0) (in_f hj) ?_
  refine v_if_ne G 17 (decAt dd_MD_put 7 rfl) (by decide) (fun c12 => ?_) (fun c12 => ?_)
  · skip
    exact absurd rfl c12
  · skip
    refine v_iconst G 0 (decAt dd_MD_put 8 rfl) (by decide) ?_
    exact v_iret G (decAt dd_MD_put 9 rfl) rfl ⟨rfl, rfl, rfl, rfl, rfl, rfl⟩
set_option maxHeartbeats 4000000 in
theorem c_MD_local_in (l : Launch) {E : Bs} (hE : Hb E) {ρ : Nat → Nat} {g A : Nat → Nat → Int32} {n : Nat → Nat} {tx : Value} {j : Nat} (hn : MN n) (hj : j < 16) : CW l E DM AM y_MD_local b_MD_local 2 (some .int) ({ frames := 1, cells := 0, slots := 0, locals := 22 } : Room) [.ref (E.o 6), .int (nI j)] ρ g A n tx (fun r ρ' g' A' n' tx' => r = some (.int (A 31 j)) ∧ ρ' = ρ ∧ g' = up2 g 6 0 0 ∧ A' = A ∧ n' = n ∧ tx' = tx) := by
  obtain ⟨hn1, hn2, hn3, hn4, hn5, hn6, hn7⟩ := hn
  refine CW.start [some (.ref (E.o 6)), some (.int (nI j))] hE (by decide) (Nat.le_of_ble_eq_true rfl) rfl ?_
  intro p e s m args below meth c G
  refine v_aload_n G (decAt dd_MD_local 0 rfl) rfl ?_
  refine v_iload_n G (decAt dd_MD_local 1 rfl) rfl ?_
  refine v_iconst G 0 (decAt dd_MD_local 2 rfl) (by decide) ?_
  refine v_bipush G 15 (decAt dd_MD_local 3 rfl) (by decide) ?_
  refine p_callSi G (XB_Sy G) (As := [.int (nI j), .int 0, .int 15]) (decAt dd_MD_local 4 rfl) k_MD_39 (c_MD_in l hE) rfl rfl (Nat.le_of_ble_eq_true rfl) (by decide) rfl rfl (by decide) ?_
  refine v_ri (y := 1) (in_t (nI_in0 (k := 15) (by omega) (by omega))) ?_
  refine v_if_eq G 15 (decAt dd_MD_local 5 rfl) (by decide) (fun c8 => ?_) (fun c8 => ?_)
  · skip
    exact absurd c8 (by decide)
  · skip
    refine v_iconst G 0 (decAt dd_MD_local 6 rfl) (by decide) ?_
    refine v_goto G 16 (decAt dd_MD_local 7 rfl) (by decide) ?_
    refine v_puti G (decAt dd_MD_local 9 rfl) f_MD_32 rfl rfl rfl ?_
    refine v_aload_n G (decAt dd_MD_local 10 rfl) rfl ?_
    refine v_geti G (decAt dd_MD_local 11 rfl) f_MD_32 ?_
    refine v_ri (y := 0) rfl ?_
    refine v_if_ne G 35 (decAt dd_MD_local 12 rfl) (by decide) (fun c23 => ?_) (fun c23 => ?_)
    · skip
      exact absurd rfl c23
    · skip
      refine v_aload_n G (decAt dd_MD_local 13 rfl) rfl ?_
      refine v_geta G (decAt dd_MD_local 14 rfl) f_MD_16 ?_
      refine v_iload_n G (decAt dd_MD_local 15 rfl) rfl ?_
      refine v_iald G 31 _ (decAt dd_MD_local 16 rfl) (by decide) rfl (by first | with_reducible rfl | with_reducible exact nI_1 _ | with_reducible exact nI_add _ _ | assumption) (by omega) ?_
      refine v_goto G 36 (decAt dd_MD_local 17 rfl) (by decide) ?_
      exact v_iret G (decAt dd_MD_local 19 rfl) rfl ⟨rfl, rfl, rfl, rfl, rfl, rfl⟩
set_option maxHeartbeats 4000000 in
theorem c_MD_local_out (l : Launch) {E : Bs} (hE : Hb E) {ρ : Nat → Nat} {g A : Nat → Nat → Int32} {n : Nat → Nat} {tx : Value} {x : Int32} (hj : ¬ (0 ≤ x ∧ x ≤ 15)) : CW l E DM AM y_MD_local b_MD_local 2 (some .int) ({ frames := 1, cells := 0, slots := 0, locals := 22 } : Room) [.ref (E.o 6), .int x] ρ g A n tx (fun r ρ' g' A' n' tx' => r = some (.int 0) ∧ ρ' = ρ ∧ g' = up2 g 6 0 1 ∧ A' = A ∧ n' = n ∧ tx' = tx) := by
  refine CW.start [some (.ref (E.o 6)), some (.int x)] hE (by decide) (Nat.le_of_ble_eq_true rfl) rfl ?_
  intro p e s m args below meth c G
  refine v_aload_n G (decAt dd_MD_local 0 rfl) rfl ?_
  refine v_iload_n G (decAt dd_MD_local 1 rfl) rfl ?_
  refine v_iconst G 0 (decAt dd_MD_local 2 rfl) (by decide) ?_
  refine v_bipush G 15 (decAt dd_MD_local 3 rfl) (by decide) ?_
  refine p_callSi G (XB_Sy G) (As := [.int x, .int 0, .int 15]) (decAt dd_MD_local 4 rfl) k_MD_39 (c_MD_in l hE) rfl rfl (Nat.le_of_ble_eq_true rfl) (by decide) rfl rfl (by decide) ?_
  refine v_ri (y := 0) (in_f hj) ?_
  refine v_if_eq G 15 (decAt dd_MD_local 5 rfl) (by decide) (fun c8 => ?_) (fun c8 => ?_)
  · skip
    refine v_iconst G 1 (decAt dd_MD_local 8 rfl) (by decide) ?_
    refine v_puti G (decAt dd_MD_local 9 rfl) f_MD_32 rfl rfl rfl ?_
    refine v_aload_n G (decAt dd_MD_local 10 rfl) rfl ?_
    refine v_geti G (decAt dd_MD_local 11 rfl) f_MD_32 ?_
    refine v_ri (y := 1) rfl ?_
    refine v_if_ne G 35 (decAt dd_MD_local 12 rfl) (by decide) (fun c23 => ?_) (fun c23 => ?_)
    · skip
      refine v_iconst G 0 (decAt dd_MD_local 18 rfl) (by decide) ?_
      exact v_iret G (decAt dd_MD_local 19 rfl) rfl ⟨rfl, rfl, rfl, rfl, rfl, rfl⟩
    · skip
      exact absurd c23 (by decide)
  · skip
    exact absurd rfl c8
set_option maxHeartbeats 4000000 in
theorem c_MD_word_in (l : Launch) {E : Bs} (hE : Hb E) {ρ : Nat → Nat} {g A : Nat → Nat → Int32} {n : Nat → Nat} {tx : Value} {j : Nat} (hn : MN n) (hj : j < 64) : CW l E DM AM y_MD_word b_MD_word 2 (some .int) ({ frames := 1, cells := 0, slots := 0, locals := 22 } : Room) [.ref (E.o 6), .int (nI j)] ρ g A n tx (fun r ρ' g' A' n' tx' => r = some (.int (A 32 j)) ∧ ρ' = ρ ∧ g' = up2 g 6 0 0 ∧ A' = A ∧ n' = n ∧ tx' = tx) := by
  obtain ⟨hn1, hn2, hn3, hn4, hn5, hn6, hn7⟩ := hn
  refine CW.start [some (.ref (E.o 6)), some (.int (nI j))] hE (by decide) (Nat.le_of_ble_eq_true rfl) rfl ?_
  intro p e s m args below meth c G
  refine v_aload_n G (decAt dd_MD_word 0 rfl) rfl ?_
  refine v_iload_n G (decAt dd_MD_word 1 rfl) rfl ?_
  refine v_iconst G 0 (decAt dd_MD_word 2 rfl) (by decide) ?_
  refine v_bipush G 63 (decAt dd_MD_word 3 rfl) (by decide) ?_
  refine p_callSi G (XB_Sy G) (As := [.int (nI j), .int 0, .int 63]) (decAt dd_MD_word 4 rfl) k_MD_39 (c_MD_in l hE) rfl rfl (Nat.le_of_ble_eq_true rfl) (by decide) rfl rfl (by decide) ?_
  refine v_ri (y := 1) (in_t (nI_in0 (k := 63) (by omega) (by omega))) ?_
  refine v_if_eq G 15 (decAt dd_MD_word 5 rfl) (by decide) (fun c8 => ?_) (fun c8 => ?_)
  · skip
    exact absurd c8 (by decide)
  · skip
    refine v_iconst G 0 (decAt dd_MD_word 6 rfl) (by decide) ?_
    refine v_goto G 16 (decAt dd_MD_word 7 rfl) (by decide) ?_
    refine v_puti G (decAt dd_MD_word 9 rfl) f_MD_32 rfl rfl rfl ?_
    refine v_aload_n G (decAt dd_MD_word 10 rfl) rfl ?_
    refine v_geti G (decAt dd_MD_word 11 rfl) f_MD_32 ?_
    refine v_ri (y := 0) rfl ?_
    refine v_if_ne G 35 (decAt dd_MD_word 12 rfl) (by decide) (fun c23 => ?_) (fun c23 => ?_)
    · skip
      exact absurd rfl c23
    · skip
      refine v_aload_n G (decAt dd_MD_word 13 rfl) rfl ?_
      refine v_geta G (decAt dd_MD_word 14 rfl) f_MD_19 ?_
      refine v_iload_n G (decAt dd_MD_word 15 rfl) rfl ?_
      refine v_iald G 32 _ (decAt dd_MD_word 16 rfl) (by decide) rfl (by first | with_reducible rfl | with_reducible exact nI_1 _ | with_reducible exact nI_add _ _ | assumption) (by omega) ?_
      refine v_goto G 36 (decAt dd_MD_word 17 rfl) (by decide) ?_
      exact v_iret G (decAt dd_MD_word 19 rfl) rfl ⟨rfl, rfl, rfl, rfl, rfl, rfl⟩
set_option maxHeartbeats 4000000 in
theorem c_MD_word_out (l : Launch) {E : Bs} (hE : Hb E) {ρ : Nat → Nat} {g A : Nat → Nat → Int32} {n : Nat → Nat} {tx : Value} {x : Int32} (hj : ¬ (0 ≤ x ∧ x ≤ 63)) : CW l E DM AM y_MD_word b_MD_word 2 (some .int) ({ frames := 1, cells := 0, slots := 0, locals := 22 } : Room) [.ref (E.o 6), .int x] ρ g A n tx (fun r ρ' g' A' n' tx' => r = some (.int 0) ∧ ρ' = ρ ∧ g' = up2 g 6 0 1 ∧ A' = A ∧ n' = n ∧ tx' = tx) := by
  refine CW.start [some (.ref (E.o 6)), some (.int x)] hE (by decide) (Nat.le_of_ble_eq_true rfl) rfl ?_
  intro p e s m args below meth c G
  refine v_aload_n G (decAt dd_MD_word 0 rfl) rfl ?_
  refine v_iload_n G (decAt dd_MD_word 1 rfl) rfl ?_
  refine v_iconst G 0 (decAt dd_MD_word 2 rfl) (by decide) ?_
  refine v_bipush G 63 (decAt dd_MD_word 3 rfl) (by decide) ?_
  refine p_callSi G (XB_Sy G) (As := [.int x, .int 0, .int 63]) (decAt dd_MD_word 4 rfl) k_MD_39 (c_MD_in l hE) rfl rfl (Nat.le_of_ble_eq_true rfl) (by decide) rfl rfl (by decide) ?_
  refine v_ri (y := 0) (in_f hj) ?_
  refine v_if_eq G 15 (decAt dd_MD_word 5 rfl) (by decide) (fun c8 => ?_) (fun c8 => ?_)
  · skip
    refine v_iconst G 1 (decAt dd_MD_word 8 rfl) (by decide) ?_
    refine v_puti G (decAt dd_MD_word 9 rfl) f_MD_32 rfl rfl rfl ?_
    refine v_aload_n G (decAt dd_MD_word 10 rfl) rfl ?_
    refine v_geti G (decAt dd_MD_word 11 rfl) f_MD_32 ?_
    refine v_ri (y := 1) rfl ?_
    refine v_if_ne G 35 (decAt dd_MD_word 12 rfl) (by decide) (fun c23 => ?_) (fun c23 => ?_)
    · skip
      refine v_iconst G 0 (decAt dd_MD_word 18 rfl) (by decide) ?_
      exact v_iret G (decAt dd_MD_word 19 rfl) rfl ⟨rfl, rfl, rfl, rfl, rfl, rfl⟩
    · skip
      exact absurd c23 (by decide)
  · skip
    exact absurd rfl c8
set_option maxHeartbeats 4000000 in
theorem c_MD_pop (l : Launch) {E : Bs} (hE : Hb E) {ρ : Nat → Nat} {g A : Nat → Nat → Int32} {n : Nat → Nat} {tx : Value} {h : Nat} (hn : MN n) (hh : g 6 11 = nI (h + 1)) (hl : h < 61) : CW l E DM AM y_MD_pop b_MD_pop 1 (some .int) ({ frames := 0, cells := 0, slots := 0, locals := 0 } : Room) [.ref (E.o 6)] ρ g A n tx (fun r ρ' g' A' n' tx' => r = some (.int (A 35 h)) ∧ ρ' = ρ ∧ g' = up2 g 6 11 (nI h) ∧ A' = A ∧ n' = n ∧ tx' = tx) := by
  obtain ⟨hn1, hn2, hn3, hn4, hn5, hn6, hn7⟩ := hn
  refine CW.start [some (.ref (E.o 6))] hE (by decide) (Nat.le_of_ble_eq_true rfl) rfl ?_
  intro p e s m args below meth c G
  refine v_aload_n G (decAt dd_MD_pop 0 rfl) rfl ?_
  refine v_dup G (decAt dd_MD_pop 1 rfl) rfl ?_
  refine v_geti G (decAt dd_MD_pop 2 rfl) f_MD_74 ?_
  refine v_ri (y := (nI (h + 1))) hh ?_
  refine v_iconst G 1 (decAt dd_MD_pop 3 rfl) (by decide) ?_
  refine v_isub G (decAt dd_MD_pop 4 rfl) ?_
  refine v_ri (y := (nI h)) (nI_pred h) ?_
  refine v_puti G (decAt dd_MD_pop 5 rfl) f_MD_74 rfl rfl rfl ?_
  refine v_aload_n G (decAt dd_MD_pop 6 rfl) rfl ?_
  refine v_geta G (decAt dd_MD_pop 7 rfl) f_MD_29 ?_
  refine v_aload_n G (decAt dd_MD_pop 8 rfl) rfl ?_
  refine v_geti G (decAt dd_MD_pop 9 rfl) f_MD_74 ?_
  refine v_ri (y := (nI h)) rfl ?_
  refine v_iald G 35 _ (decAt dd_MD_pop 10 rfl) (by decide) rfl (by first | with_reducible rfl | with_reducible exact nI_1 _ | with_reducible exact nI_add _ _ | assumption) (by omega) ?_
  exact v_iret G (decAt dd_MD_pop 11 rfl) rfl ⟨rfl, rfl, rfl, rfl, rfl, rfl⟩
set_option maxHeartbeats 4000000 in
theorem c_MD_push (l : Launch) {E : Bs} (hE : Hb E) {ρ : Nat → Nat} {g A : Nat → Nat → Int32} {n : Nat → Nat} {tx : Value} {v : Int32} {h : Nat} (hn : MN n) (hh : g 6 11 = nI h) (hl : h < 61) : CW l E DM AM y_MD_push b_MD_push 2 none ({ frames := 0, cells := 0, slots := 0, locals := 0 } : Room) [.ref (E.o 6), .int v] ρ g A n tx (fun r ρ' g' A' n' tx' => r = none ∧ ρ' = ρ ∧ g' = up2 g 6 11 (nI (h + 1)) ∧ A' = va_up A 35 (va_up (A 35) h v) ∧ n' = n ∧ tx' = tx) := by
  obtain ⟨hn1, hn2, hn3, hn4, hn5, hn6, hn7⟩ := hn
  refine CW.start [some (.ref (E.o 6)), some (.int v)] hE (by decide) (Nat.le_of_ble_eq_true rfl) rfl ?_
  intro p e s m args below meth c G
  refine v_aload_n G (decAt dd_MD_push 0 rfl) rfl ?_
  refine v_geta G (decAt dd_MD_push 1 rfl) f_MD_29 ?_
  refine v_aload_n G (decAt dd_MD_push 2 rfl) rfl ?_
  refine v_geti G (decAt dd_MD_push 3 rfl) f_MD_74 ?_
  refine v_ri (y := (nI h)) hh ?_
  refine v_iload_n G (decAt dd_MD_push 4 rfl) rfl ?_
  refine v_iast G 35 _ (decAt dd_MD_push 5 rfl) (by decide) rfl (by first | with_reducible rfl | with_reducible exact nI_1 _ | with_reducible exact nI_add _ _ | assumption) (by omega) ?_
  refine v_aload_n G (decAt dd_MD_push 6 rfl) rfl ?_
  refine v_dup G (decAt dd_MD_push 7 rfl) rfl ?_
  refine v_geti G (decAt dd_MD_push 8 rfl) f_MD_74 ?_
  refine v_ri (y := (nI h)) hh ?_
  refine v_iconst G 1 (decAt dd_MD_push 9 rfl) (by decide) ?_
  refine v_iadd G (decAt dd_MD_push 10 rfl) ?_
  refine v_ri (y := (nI (h + 1))) (nI_1 h) ?_
  refine v_puti G (decAt dd_MD_push 11 rfl) f_MD_74 rfl rfl rfl ?_
  exact v_vret G (decAt dd_MD_push 12 rfl) rfl ⟨rfl, rfl, rfl, rfl, rfl, rfl⟩
set_option maxHeartbeats 4000000 in
theorem c_MD_place (l : Launch) {E : Bs} (hE : Hb E) {ρ : Nat → Nat} {g A : Nat → Nat → Int32} {n : Nat → Nat} {tx : Value} {lab : Int32} {sz : Nat} (hn : MN n) (hs : g 6 1 = nI sz) (hsz : sz ≤ 400) : CW l E DM AM y_MD_place b_MD_place 3 (some .int) ({ frames := 0, cells := 0, slots := 0, locals := 0 } : Room) [.ref (E.o 6), .int lab] ρ g A n tx (fun r ρ' g' A' n' tx' => r = some (.int (plcI (A 29) (A 30) sz lab)) ∧ ρ' = ρ ∧ g' = g ∧ A' = A ∧ n' = n ∧ tx' = tx) := by
  obtain ⟨hn1, hn2, hn3, hn4, hn5, hn6, hn7⟩ := hn
  refine CW.start [some (.ref (E.o 6)), some (.int lab), none] hE (by decide) (Nat.le_of_ble_eq_true rfl) rfl ?_
  intro p e s m args below meth c G
  have J : ∀ (d i : Nat), i + d = sz → plcG (A 29) (A 30) lab d i = plcI (A 29) (A 30) sz lab → V p l e ({ frames := 0, cells := 0, slots := 0, locals := 0 } : Room) s m args below meth c 3 (Sy E DM AM s.heap ρ g A n tx) 0 0 (MQ below (QW E DM AM (fun r ρ' g' A' n' tx' => r = some (.int (plcI (A 29) (A 30) sz lab)) ∧ ρ' = ρ ∧ g' = g ∧ A' = A ∧ n' = n ∧ tx' = tx)) args s 0 0 E.F) 2 [some (.ref (E.o 6)), some (.int lab), some (.int (nI i))] [] := by
    intro d
    induction d with
    | zero =>
      intro i hi hp
      refine v_iload_n G (decAt dd_MD_place 2 rfl) rfl ?_
      refine v_aload_n G (decAt dd_MD_place 3 rfl) rfl ?_
      refine v_geti G (decAt dd_MD_place 4 rfl) f_MD_36 ?_
      refine v_ri (y := (nI sz)) hs ?_
      refine v_icmp_ge G 39 (decAt dd_MD_place 5 rfl) (by decide) (fun c7 => ?_) (fun c7 => ?_)
      · skip
        refine v_iconst G (-1) (decAt dd_MD_place 22 rfl) (by decide) ?_
        exact v_iret G (decAt dd_MD_place 23 rfl) rfl ⟨some_i hp, rfl, rfl, rfl, rfl, rfl⟩
      · skip
        exact absurd (nI_le (by omega) (by omega)) c7
    | succ d ih =>
      intro i hi hp
      refine v_iload_n G (decAt dd_MD_place 2 rfl) rfl ?_
      refine v_aload_n G (decAt dd_MD_place 3 rfl) rfl ?_
      refine v_geti G (decAt dd_MD_place 4 rfl) f_MD_36 ?_
      refine v_ri (y := (nI sz)) hs ?_
      refine v_icmp_ge G 39 (decAt dd_MD_place 5 rfl) (by decide) (fun c7 => ?_) (fun c7 => ?_)
      · skip
        exact absurd c7 (nI_ge (by omega) (by omega))
      · skip
        refine v_aload_n G (decAt dd_MD_place 6 rfl) rfl ?_
        refine v_geta G (decAt dd_MD_place 7 rfl) f_MD_7 ?_
        refine v_iload_n G (decAt dd_MD_place 8 rfl) rfl ?_
        refine v_iald G 29 _ (decAt dd_MD_place 9 rfl) (by decide) rfl (by first | with_reducible rfl | with_reducible exact nI_1 _ | with_reducible exact nI_add _ _ | assumption) (by omega) ?_
        refine v_bipush G 13 (decAt dd_MD_place 10 rfl) (by decide) ?_
        refine v_icmp_ne G 33 (decAt dd_MD_place 11 rfl) (by decide) (fun c18 => ?_) (fun c18 => ?_)
        · skip
          refine v_iinc_2 G (nI (i + 1)) (decAt dd_MD_place 20 rfl) (nI_1 i) (by decide) rfl ?_
          refine v_goto G 2 (decAt dd_MD_place 21 rfl) (by decide) ?_
          exact ih (i + 1) (by omega) (by rw [← hp, plcG, if_neg (by first | exact fun z => c18 z.1 | exact fun z => c28 z.2)])
        · skip
          refine v_aload_n G (decAt dd_MD_place 12 rfl) rfl ?_
          refine v_geta G (decAt dd_MD_place 13 rfl) f_MD_13 ?_
          refine v_iload_n G (decAt dd_MD_place 14 rfl) rfl ?_
          refine v_iald G 30 _ (decAt dd_MD_place 15 rfl) (by decide) rfl (by first | with_reducible rfl | with_reducible exact nI_1 _ | with_reducible exact nI_add _ _ | assumption) (by omega) ?_
          refine v_iload_n G (decAt dd_MD_place 16 rfl) rfl ?_
          refine v_icmp_ne G 33 (decAt dd_MD_place 17 rfl) (by decide) (fun c28 => ?_) (fun c28 => ?_)
          · skip
            refine v_iinc_2 G (nI (i + 1)) (decAt dd_MD_place 20 rfl) (nI_1 i) (by decide) rfl ?_
            refine v_goto G 2 (decAt dd_MD_place 21 rfl) (by decide) ?_
            exact ih (i + 1) (by omega) (by rw [← hp, plcG, if_neg (by first | exact fun z => c18 z.1 | exact fun z => c28 z.2)])
          · skip
            refine v_iload_n G (decAt dd_MD_place 18 rfl) rfl ?_
            exact v_iret G (decAt dd_MD_place 19 rfl) rfl ⟨some_i (by rw [← hp, plcG, if_pos ⟨c18, c28⟩]), rfl, rfl, rfl, rfl, rfl⟩
  refine v_iconst G 0 (decAt dd_MD_place 0 rfl) (by decide) ?_
  refine v_istore_2 G (decAt dd_MD_place 1 rfl) (by decide) rfl ?_
  exact J sz 0 (by omega) rfl
set_option maxHeartbeats 4000000 in
theorem c_MD_way (l : Launch) {E : Bs} (hE : Hb E) {ρ : Nat → Nat} {g A : Nat → Nat → Int32} {n : Nat → Nat} {tx : Value} {w : Int32} {i sz : Nat} (hn : MN n) (hs : g 6 1 = nI sz) (hsz : sz ≤ 400) (hi : i < sz) (h18 : A 29 i = 18 → i + 1 < 400) : CW l E DM AM y_MD_way b_MD_way 5 (some .int) ({ frames := 1, cells := 0, slots := 0, locals := 22 } : Room) [.ref (E.o 6), .int (nI i), .int w] ρ g A n tx (fun r ρ' g' A' n' tx' => r = some (.int (wayI (A 29) (A 30) sz i w)) ∧ ρ' = ρ ∧ g' = g ∧ A' = A ∧ n' = n ∧ tx' = tx) := by
  obtain ⟨hn1, hn2, hn3, hn4, hn5, hn6, hn7⟩ := hn
  refine CW.start [some (.ref (E.o 6)), some (.int (nI i)), some (.int w), none, none] hE (by decide) (Nat.le_of_ble_eq_true rfl) rfl ?_
  intro p e s m args below meth c G
  have J : ∀ (b : Bool), (b = true ↔ (A 29 i = 16 ∨ A 29 i = 17)) → V p l e ({ frames := 1, cells := 0, slots := 0, locals := 22 } : Room) s m args below meth c 5 (Sy E DM AM s.heap ρ g A n tx) 0 0 (MQ below (QW E DM AM (fun r ρ' g' A' n' tx' => r = some (.int (wayI (A 29) (A 30) sz i w)) ∧ ρ' = ρ ∧ g' = g ∧ A' = A ∧ n' = n ∧ tx' = tx)) args s 0 0 E.F) 26 [some (.ref (E.o 6)), some (.int (nI i)), some (.int w), some (.int (A 29 i)), some (.int (bI b))] [] := by
    intro b hb
    refine v_iload_n G (decAt dd_MD_way 15 rfl) rfl ?_
    refine v_if_ne G 61 (decAt dd_MD_way 16 rfl) (by decide) (fun c27 => ?_) (fun c27 => ?_)
    · skip
      refine v_iload_n G (decAt dd_MD_way 35 rfl) rfl ?_
      refine v_bipush G 10 (decAt dd_MD_way 36 rfl) (by decide) ?_
      refine v_bipush G 12 (decAt dd_MD_way 37 rfl) (by decide) ?_
      refine p_callSi G (XB_Sy G) (As := [.int (A 29 i), .int 10, .int 12]) (decAt dd_MD_way 38 rfl) k_MD_39 (c_MD_in l hE) rfl rfl (Nat.le_of_ble_eq_true rfl) (by decide) rfl rfl (by decide) ?_
      refine v_if_eq G 85 (decAt dd_MD_way 39 rfl) (by decide) (fun c69 => ?_) (fun c69 => ?_)
      · skip
        refine v_iload_n G (decAt dd_MD_way 47 rfl) rfl ?_
        refine v_bipush G 18 (decAt dd_MD_way 48 rfl) (by decide) ?_
        refine v_icmp_ne G 106 (decAt dd_MD_way 49 rfl) (by decide) (fun c88 => ?_) (fun c88 => ?_)
        · skip
          refine v_iconst G (-1) (decAt dd_MD_way 59 rfl) (by decide) ?_
          exact v_iret G (decAt dd_MD_way 60 rfl) rfl ⟨some_i (by unfold wayI; cases b <;> simp_all [bI0, nI_1] <;> first | rfl | exact (nI_add i 2) | (intro h1 h2; exact absurd h2 (Int32.not_le.mpr (c69 h1))) | (intro h1 h2; rcases hb with h | h <;> contradiction)), rfl, rfl, rfl, rfl, rfl⟩
        · skip
          have h18 := h18 c88
          refine v_aload_n G (decAt dd_MD_way 50 rfl) rfl ?_
          refine v_aload_n G (decAt dd_MD_way 51 rfl) rfl ?_
          refine v_geta G (decAt dd_MD_way 52 rfl) f_MD_13 ?_
          refine v_iload_n G (decAt dd_MD_way 53 rfl) rfl ?_
          refine v_iconst G 1 (decAt dd_MD_way 54 rfl) (by decide) ?_
          refine v_iadd G (decAt dd_MD_way 55 rfl) ?_
          refine v_iald G 30 _ (decAt dd_MD_way 56 rfl) (by decide) rfl (by first | with_reducible rfl | with_reducible exact nI_1 _ | with_reducible exact nI_add _ _ | assumption) (by omega) ?_
          refine v_callVis G (As := [.int ((A 30) _)]) (decAt dd_MD_way 57 rfl) k_MD_47 (c_MD_place l hE ⟨hn1, hn2, hn3, hn4, hn5, hn6, hn7⟩ hs hsz) rfl rfl rfl rfl (Nat.le_of_ble_eq_true rfl) (by decide) rfl rfl (by decide) ?_
          refine v_goto G 107 (decAt dd_MD_way 58 rfl) (by decide) ?_
          exact v_iret G (decAt dd_MD_way 60 rfl) rfl ⟨some_i (by unfold wayI; cases b <;> simp_all [bI0, nI_1] <;> first | rfl | exact (nI_add i 2) | (intro h1 h2; exact absurd h2 (Int32.not_le.mpr (c69 h1))) | (intro h1 h2; rcases hb with h | h <;> contradiction)), rfl, rfl, rfl, rfl, rfl⟩
      · skip
        refine v_aload_n G (decAt dd_MD_way 40 rfl) rfl ?_
        refine v_aload_n G (decAt dd_MD_way 41 rfl) rfl ?_
        refine v_geta G (decAt dd_MD_way 42 rfl) f_MD_13 ?_
        refine v_iload_n G (decAt dd_MD_way 43 rfl) rfl ?_
        refine v_iald G 30 _ (decAt dd_MD_way 44 rfl) (by decide) rfl (by first | with_reducible rfl | with_reducible exact nI_1 _ | with_reducible exact nI_add _ _ | assumption) (by omega) ?_
        refine v_callVis G (As := [.int ((A 30) i)]) (decAt dd_MD_way 45 rfl) k_MD_47 (c_MD_place l hE ⟨hn1, hn2, hn3, hn4, hn5, hn6, hn7⟩ hs hsz) rfl rfl rfl rfl (Nat.le_of_ble_eq_true rfl) (by decide) rfl rfl (by decide) ?_
        refine v_goto G 107 (decAt dd_MD_way 46 rfl) (by decide) ?_
        exact v_iret G (decAt dd_MD_way 60 rfl) rfl ⟨some_i (by unfold wayI; cases b <;> simp_all [bI0, nI_1] <;> first | rfl | exact (nI_add i 2) | (intro h1 h2; exact absurd h2 (Int32.not_le.mpr (c69 h1))) | (intro h1 h2; rcases hb with h | h <;> contradiction)), rfl, rfl, rfl, rfl, rfl⟩
    · skip
      refine v_iload G (decAt dd_MD_way 17 rfl) rfl ?_
      refine v_if_ne G 41 (decAt dd_MD_way 18 rfl) (by decide) (fun c32 => ?_) (fun c32 => ?_)
      · skip
        refine v_iconst G (-1) (decAt dd_MD_way 22 rfl) (by decide) ?_
        refine v_goto G 60 (decAt dd_MD_way 23 rfl) (by decide) ?_
        exact v_iret G (decAt dd_MD_way 34 rfl) rfl ⟨some_i (by unfold wayI; cases b <;> simp_all [bI0, nI_1] <;> first | rfl | exact (nI_add i 2) | (intro h1 h2; exact absurd h2 (Int32.not_le.mpr (c69 h1))) | (intro h1 h2; rcases hb with h | h <;> contradiction)), rfl, rfl, rfl, rfl, rfl⟩
      · skip
        refine v_iload_n G (decAt dd_MD_way 19 rfl) rfl ?_
        refine v_bipush G 10 (decAt dd_MD_way 20 rfl) (by decide) ?_
        refine v_icmp_ne G 45 (decAt dd_MD_way 21 rfl) (by decide) (fun c38 => ?_) (fun c38 => ?_)
        · skip
          refine v_iload_n G (decAt dd_MD_way 24 rfl) rfl ?_
          refine v_bipush G 18 (decAt dd_MD_way 25 rfl) (by decide) ?_
          refine v_icmp_ne G 57 (decAt dd_MD_way 26 rfl) (by decide) (fun c48 => ?_) (fun c48 => ?_)
          · skip
            refine v_iload_n G (decAt dd_MD_way 31 rfl) rfl ?_
            refine v_iconst G 1 (decAt dd_MD_way 32 rfl) (by decide) ?_
            refine v_iadd G (decAt dd_MD_way 33 rfl) ?_
            exact v_iret G (decAt dd_MD_way 34 rfl) rfl ⟨some_i (by unfold wayI; cases b <;> simp_all [bI0, nI_1] <;> first | rfl | exact (nI_add i 2) | (intro h1 h2; exact absurd h2 (Int32.not_le.mpr (c69 h1))) | (intro h1 h2; rcases hb with h | h <;> contradiction)), rfl, rfl, rfl, rfl, rfl⟩
          · skip
            refine v_iload_n G (decAt dd_MD_way 27 rfl) rfl ?_
            refine v_iconst G 2 (decAt dd_MD_way 28 rfl) (by decide) ?_
            refine v_iadd G (decAt dd_MD_way 29 rfl) ?_
            refine v_goto G 60 (decAt dd_MD_way 30 rfl) (by decide) ?_
            exact v_iret G (decAt dd_MD_way 34 rfl) rfl ⟨some_i (by unfold wayI; cases b <;> simp_all [bI0, nI_1] <;> first | rfl | exact (nI_add i 2) | (intro h1 h2; exact absurd h2 (Int32.not_le.mpr (c69 h1))) | (intro h1 h2; rcases hb with h | h <;> contradiction)), rfl, rfl, rfl, rfl, rfl⟩
        · skip
          refine v_iconst G (-1) (decAt dd_MD_way 22 rfl) (by decide) ?_
          refine v_goto G 60 (decAt dd_MD_way 23 rfl) (by decide) ?_
          exact v_iret G (decAt dd_MD_way 34 rfl) rfl ⟨some_i (by unfold wayI; cases b <;> simp_all [bI0, nI_1] <;> first | rfl | exact (nI_add i 2) | (intro h1 h2; exact absurd h2 (Int32.not_le.mpr (c69 h1))) | (intro h1 h2; rcases hb with h | h <;> contradiction)), rfl, rfl, rfl, rfl, rfl⟩
  refine v_aload_n G (decAt dd_MD_way 0 rfl) rfl ?_
  refine v_geta G (decAt dd_MD_way 1 rfl) f_MD_7 ?_
  refine v_iload_n G (decAt dd_MD_way 2 rfl) rfl ?_
  refine v_iald G 29 _ (decAt dd_MD_way 3 rfl) (by decide) rfl (by first | with_reducible rfl | with_reducible exact nI_1 _ | with_reducible exact nI_add _ _ | assumption) (by omega) ?_
  refine v_istore_3 G (decAt dd_MD_way 4 rfl) (by decide) rfl ?_
  refine v_iload_n G (decAt dd_MD_way 5 rfl) rfl ?_
  refine v_bipush G 16 (decAt dd_MD_way 6 rfl) (by decide) ?_
  refine v_icmp_eq G 19 (decAt dd_MD_way 7 rfl) (by decide) (fun c10 => ?_) (fun c10 => ?_)
  · skip
    refine v_iconst G 1 (decAt dd_MD_way 11 rfl) (by decide) ?_
    refine v_goto G 24 (decAt dd_MD_way 12 rfl) (by decide) ?_
    refine v_istore_4 G (decAt dd_MD_way 14 rfl) (by decide) rfl ?_
    exact J true (by simp_all)
  · skip
    refine v_iload_n G (decAt dd_MD_way 8 rfl) rfl ?_
    refine v_bipush G 17 (decAt dd_MD_way 9 rfl) (by decide) ?_
    refine v_icmp_ne G 23 (decAt dd_MD_way 10 rfl) (by decide) (fun c16 => ?_) (fun c16 => ?_)
    · skip
      refine v_iconst G 0 (decAt dd_MD_way 13 rfl) (by decide) ?_
      refine v_istore_4 G (decAt dd_MD_way 14 rfl) (by decide) rfl ?_
      exact J false (by simp_all)
    · skip
      refine v_iconst G 1 (decAt dd_MD_way 11 rfl) (by decide) ?_
      refine v_goto G 24 (decAt dd_MD_way 12 rfl) (by decide) ?_
      refine v_istore_4 G (decAt dd_MD_way 14 rfl) (by decide) rfl ?_
      exact J true (by simp_all)
set_option maxHeartbeats 4000000 in
theorem c_MD_comes (l : Launch) {E : Bs} (hE : Hb E) {ρ : Nat → Nat} {g A : Nat → Nat → Int32} {n : Nat → Nat} {tx : Value} {h : Int32} {t sz : Nat} (hn : MN n) (hs : g 6 1 = nI sz) (hsz : sz ≤ 400) (ht : t < 500) : CW l E DM AM y_MD_comes b_MD_comes 3 (some .boolean) ({ frames := 0, cells := 0, slots := 0, locals := 0 } : Room) [.ref (E.o 6), .int (nI t), .int h] ρ g A n tx (fun r ρ' g' A' n' tx' => ∃ b : Bool, r = some (.int (bI b)) ∧ (b = true ↔ (t < sz ∧ h ≤ 60 ∧ (A 33 t = -1 ∨ A 33 t = h))) ∧ ρ' = ρ ∧ g' = g ∧ A' = (if b then va_up A 33 (va_up (A 33) t h) else A) ∧ n' = n ∧ tx' = tx) := by
  obtain ⟨hn1, hn2, hn3, hn4, hn5, hn6, hn7⟩ := hn
  refine CW.start [some (.ref (E.o 6)), some (.int (nI t)), some (.int h)] hE (by decide) (Nat.le_of_ble_eq_true rfl) rfl ?_
  intro p e s m args below meth c G
  refine v_iload_n G (decAt dd_MD_comes 0 rfl) rfl ?_
  refine v_aload_n G (decAt dd_MD_comes 1 rfl) rfl ?_
  refine v_geti G (decAt dd_MD_comes 2 rfl) f_MD_36 ?_
  refine v_ri (y := (nI sz)) hs ?_
  refine v_icmp_ge G 34 (decAt dd_MD_comes 3 rfl) (by decide) (fun c5 => ?_) (fun c5 => ?_)
  · skip
    refine v_iconst G 0 (decAt dd_MD_comes 19 rfl) (by decide) ?_
    exact v_zret G (decAt dd_MD_comes 20 rfl) rfl rfl ⟨false, rfl, ⟨fun z => (by cases z), fun z => by first | exact absurd c5 (nI_ge z.1 (by omega)) | exact absurd c11 (Int32.not_lt.mpr z.2.1) | exact z.2.2.elim (fun q => absurd q c21) (fun q => absurd q c31)⟩, rfl, rfl, rfl, rfl, rfl⟩
  · skip
    have c5 : t < sz := Nat.lt_of_not_le fun z => c5 (nI_le z (by omega))
    refine v_iload_n G (decAt dd_MD_comes 4 rfl) rfl ?_
    refine v_bipush G 60 (decAt dd_MD_comes 5 rfl) (by decide) ?_
    refine v_icmp_gt G 34 (decAt dd_MD_comes 6 rfl) (by decide) (fun c11 => ?_) (fun c11 => ?_)
    · skip
      refine v_iconst G 0 (decAt dd_MD_comes 19 rfl) (by decide) ?_
      exact v_zret G (decAt dd_MD_comes 20 rfl) rfl rfl ⟨false, rfl, ⟨fun z => (by cases z), fun z => by first | exact absurd c5 (nI_ge z.1 (by omega)) | exact absurd c11 (Int32.not_lt.mpr z.2.1) | exact z.2.2.elim (fun q => absurd q c21) (fun q => absurd q c31)⟩, rfl, rfl, rfl, rfl, rfl⟩
    · skip
      refine v_aload_n G (decAt dd_MD_comes 7 rfl) rfl ?_
      refine v_geta G (decAt dd_MD_comes 8 rfl) f_MD_22 ?_
      refine v_iload_n G (decAt dd_MD_comes 9 rfl) rfl ?_
      refine v_iald G 33 _ (decAt dd_MD_comes 10 rfl) (by decide) rfl (by first | with_reducible rfl | with_reducible exact nI_1 _ | with_reducible exact nI_add _ _ | assumption) (by omega) ?_
      refine v_iconst G (-1) (decAt dd_MD_comes 11 rfl) (by decide) ?_
      refine v_icmp_eq G 36 (decAt dd_MD_comes 12 rfl) (by decide) (fun c21 => ?_) (fun c21 => ?_)
      · skip
        refine v_aload_n G (decAt dd_MD_comes 21 rfl) rfl ?_
        refine v_geta G (decAt dd_MD_comes 22 rfl) f_MD_22 ?_
        refine v_iload_n G (decAt dd_MD_comes 23 rfl) rfl ?_
        refine v_iload_n G (decAt dd_MD_comes 24 rfl) rfl ?_
        refine v_iast G 33 _ (decAt dd_MD_comes 25 rfl) (by decide) rfl (by first | with_reducible rfl | with_reducible exact nI_1 _ | with_reducible exact nI_add _ _ | assumption) (by omega) ?_
        refine v_iconst G 1 (decAt dd_MD_comes 26 rfl) (by decide) ?_
        exact v_zret G (decAt dd_MD_comes 27 rfl) rfl rfl ⟨true, rfl, ⟨fun _ => ⟨c5, i32_in c11, by first | exact Or.inl c21 | exact Or.inr c31⟩, fun _ => rfl⟩, rfl, rfl, rfl, rfl, rfl⟩
      · skip
        refine v_aload_n G (decAt dd_MD_comes 13 rfl) rfl ?_
        refine v_geta G (decAt dd_MD_comes 14 rfl) f_MD_22 ?_
        refine v_iload_n G (decAt dd_MD_comes 15 rfl) rfl ?_
        refine v_iald G 33 _ (decAt dd_MD_comes 16 rfl) (by decide) rfl (by first | with_reducible rfl | with_reducible exact nI_1 _ | with_reducible exact nI_add _ _ | assumption) (by omega) ?_
        refine v_iload_n G (decAt dd_MD_comes 17 rfl) rfl ?_
        refine v_icmp_eq G 36 (decAt dd_MD_comes 18 rfl) (by decide) (fun c31 => ?_) (fun c31 => ?_)
        · skip
          refine v_aload_n G (decAt dd_MD_comes 21 rfl) rfl ?_
          refine v_geta G (decAt dd_MD_comes 22 rfl) f_MD_22 ?_
          refine v_iload_n G (decAt dd_MD_comes 23 rfl) rfl ?_
          refine v_iload_n G (decAt dd_MD_comes 24 rfl) rfl ?_
          refine v_iast G 33 _ (decAt dd_MD_comes 25 rfl) (by decide) rfl (by first | with_reducible rfl | with_reducible exact nI_1 _ | with_reducible exact nI_add _ _ | assumption) (by omega) ?_
          refine v_iconst G 1 (decAt dd_MD_comes 26 rfl) (by decide) ?_
          exact v_zret G (decAt dd_MD_comes 27 rfl) rfl rfl ⟨true, rfl, ⟨fun _ => ⟨c5, i32_in c11, by first | exact Or.inl c21 | exact Or.inr c31⟩, fun _ => rfl⟩, rfl, rfl, rfl, rfl, rfl⟩
        · skip
          refine v_iconst G 0 (decAt dd_MD_comes 19 rfl) (by decide) ?_
          exact v_zret G (decAt dd_MD_comes 20 rfl) rfl rfl ⟨false, rfl, ⟨fun z => (by cases z), fun z => by first | exact absurd c5 (nI_ge z.1 (by omega)) | exact absurd c11 (Int32.not_lt.mpr z.2.1) | exact z.2.2.elim (fun q => absurd q c21) (fun q => absurd q c31)⟩, rfl, rfl, rfl, rfl, rfl⟩
