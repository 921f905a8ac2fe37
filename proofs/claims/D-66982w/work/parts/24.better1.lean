/-! the class: its small methods; Code.emit; Better: keep, isConstant, next, folded -/
theorem va_up_id {α : Type} (f : Nat → α) (i : Nat) : va_up f i (f i) = f := by
  funext j
  by_cases h : j = i
  · subst h; exact va_up_self _ _ _
  · exact va_up_ne _ _ h
theorem v_S {p : Program} {l : Launch} {e : Env} {R : Room} {s : State} {m : MethodId} {args : Array Value} {below : List Frame} {meth : Method} {c : Code} {nL : Nat} {X : Heap → List Loc → Prop} {cells slots : Nat} {Q : State → Prop} {pc : Nat} {L : List (Option Value)} {S S' : List Value} (h : S = S') (k : V p l e R s m args below meth c nL X cells slots Q pc L S') : V p l e R s m args below meth c nL X cells slots Q pc L S := h ▸ k
theorem nI_sub (a b : Nat) : nI (a + b) - nI b = nI a := by rw [← nI_add]; exact Int32.add_sub_cancel _ _
/-- a code's words, the last instruction first -/
def TI (f : Nat → Int32) : Cod → Prop
  | [] => True
  | (n, k) :: r => f (2 * r.length) = stv 2 n ∧ f (2 * r.length + 1) = k ∧ n ≤ 20 ∧ TI f r
/-- a code's words -/
def CdI (f : Nat → Int32) (c : Cod) : Prop := ∀ i n k, c[i]? = some (n, k) → f (2 * i) = stv 2 n ∧ f (2 * i + 1) = k ∧ n ≤ 20
theorem TI.ext {f f' : Nat → Int32} : ∀ {τ : Cod}, TI f τ → (∀ j, j < 2 * τ.length → f' j = f j) → TI f' τ
  | [], _, _ => trivial
  | (n, k) :: r, h, he => ⟨by rw [he _ (by simp)]; exact h.1, by rw [he _ (by simp; omega)]; exact h.2.1, h.2.2.1, h.2.2.2.ext (fun j hj => he j (by simp; omega))⟩
theorem TI.up {f : Nat → Int32} {j : Nat} {v : Int32} {τ : Cod} (h : TI f τ) (hj : 2 * τ.length ≤ j) : TI (va_up f j v) τ := h.ext (fun i hi => va_up_ne _ _ (by omega))
theorem TI.push {f : Nat → Int32} {n : Nat} {k : Int32} {τ : Cod} (h : TI f τ) (hn : n ≤ 20) : TI (va_up (va_up f (2 * τ.length) (stv 2 n)) (2 * τ.length + 1) k) ((n, k) :: τ) :=
  ⟨by rw [va_up_ne _ _ (by omega)]; exact va_up_self _ _ _, va_up_self _ _ _, hn, (h.up (by omega)).up (by omega)⟩
theorem TI.cd {f : Nat → Int32} : ∀ {τ : Cod}, TI f τ → CdI f τ.reverse
  | [], _ => by intro i n k h; simp at h
  | (n, k) :: r, h => by
    intro i n' k' hi
    rw [List.reverse_cons] at hi
    by_cases e : i < r.length
    · rw [List.getElem?_append_left (by simpa using e)] at hi
      exact TI.cd h.2.2.2 i n' k' hi
    · rw [List.getElem?_append_right (by simpa using e), List.length_reverse] at hi
      have : i - r.length = 0 := by
        have := (List.getElem?_eq_some_iff.mp hi).1
        simp at this
        omega
      rw [this] at hi
      have e2 : i = r.length := by omega
      subst e2
      simp at hi
      obtain ⟨rfl, rfl⟩ := hi
      exact ⟨h.1, h.2.1, h.2.2.1⟩
theorem stv2_0 : ∀ n, n ≤ 20 → (stv 2 n = 0 ↔ n = 0) := by decide +kernel
theorem stv2_1 : ∀ n, n ≤ 20 → (stv 2 n = 1 ↔ n = 1) := by decide +kernel
theorem stv2_27 : ∀ n, n ≤ 20 → ¬ stv 2 n = 2 ∧ ¬ stv 2 n = 7 := by decide +kernel
theorem stv2_inj : ∀ n, n ≤ 20 → ∀ m, m ≤ 20 → stv 2 n = stv 2 m → n = m := by decide +kernel
/-- an instruction that constants ahead of it do away with -/
def fold1 (τ : Cod) (n : Nat) (a : Int32) : Option Cod := match n, τ with
  | 5, (0, x) :: r => some ((0, -x) :: r)
  | 6, (0, x) :: r => some ((0, x ^^^ (-1)) :: r)
  | 7, (0, y) :: (0, x) :: r => if (a = 3 ∨ a = 4) ∧ y = 0 then none else some ((0, opr a.toNatClampNeg x y) :: r)
  | 8, (0, y) :: (0, x) :: r => some ((0, rI (rel a.toNatClampNeg x y)) :: r)
  | 11, (0, y) :: r => if y = 0 then some ((10, a) :: r) else some r
  | 12, (0, y) :: r => if y = 0 then some r else some ((10, a) :: r)
  | 14, (0, _) :: r => some r
  | 14, (1, _) :: r => some r
  | _, _ => none

set_option maxHeartbeats 4000000 in
theorem c_RC_add (l : Launch) {E : Bs} (hE : Hb E) {ρ : Nat → Nat} {g A : Nat → Nat → Int32} {n : Nat → Nat} {tx : Value} {num k : Int32} {sz : Nat} (hn : RN n) (hs : g 0 2 = nI sz) (hsz : sz < 400) : CW l E DC AC y_RC_add b_RC_add 3 (some .int) ({ frames := 0, cells := 0, slots := 0, locals := 0 } : Room) [.ref (E.o 0), .int num, .int k] ρ g A n tx (fun r ρ' g' A' n' tx' => r = some (.int (nI (sz + 1))) ∧ ρ' = ρ ∧ g' = up2 (up2 g 0 2 (nI (sz + 1))) 0 3 0 ∧ A' = va_up (va_up A 0 (va_up (A 0) sz num)) 1 (va_up (A 1) sz k) ∧ n' = n ∧ tx' = tx) := by
  obtain ⟨hn0, hn1, hn2, hn3, hn4, hn5, hn6, hn7, hn8, hn9⟩ := hn
  refine CW.start [some (.ref (E.o 0)), some (.int num), some (.int k)] hE (by decide) (Nat.le_of_ble_eq_true rfl) rfl ?_
  intro p e s m args below meth c G
  refine v_aload_n G (decAt dd_RC_add 0 rfl) rfl ?_
  refine v_geti G (decAt dd_RC_add 1 rfl) f_RC_75 ?_
  refine v_ri (y := (nI sz)) hs ?_
  refine v_sipush G 400 (decAt dd_RC_add 2 rfl) (by decide) ?_
  refine v_icmp_ne G 12 (decAt dd_RC_add 3 rfl) (by decide) (fun c7 => ?_) (fun c7 => ?_)
  · skip
    refine v_aload_n G (decAt dd_RC_add 6 rfl) rfl ?_
    refine v_geta G (decAt dd_RC_add 7 rfl) f_RC_13 ?_
    refine v_aload_n G (decAt dd_RC_add 8 rfl) rfl ?_
    refine v_geti G (decAt dd_RC_add 9 rfl) f_RC_75 ?_
    refine v_ri (y := (nI sz)) hs ?_
    refine v_iload_n G (decAt dd_RC_add 10 rfl) rfl ?_
    refine v_iast G 0 _ (decAt dd_RC_add 11 rfl) (by decide) rfl (by first | with_reducible rfl | with_reducible exact nI_1 _ | with_reducible exact nI_add _ _ | assumption) (by omega) ?_
    refine v_aload_n G (decAt dd_RC_add 12 rfl) rfl ?_
    refine v_geta G (decAt dd_RC_add 13 rfl) f_RC_17 ?_
    refine v_aload_n G (decAt dd_RC_add 14 rfl) rfl ?_
    refine v_geti G (decAt dd_RC_add 15 rfl) f_RC_75 ?_
    refine v_ri (y := (nI sz)) hs ?_
    refine v_iload_n G (decAt dd_RC_add 16 rfl) rfl ?_
    refine v_iast G 1 _ (decAt dd_RC_add 17 rfl) (by decide) rfl (by first | with_reducible rfl | with_reducible exact nI_1 _ | with_reducible exact nI_add _ _ | assumption) (by omega) ?_
    refine v_aload_n G (decAt dd_RC_add 18 rfl) rfl ?_
    refine v_dup G (decAt dd_RC_add 19 rfl) rfl ?_
    refine v_geti G (decAt dd_RC_add 20 rfl) f_RC_75 ?_
    refine v_ri (y := (nI sz)) hs ?_
    refine v_iconst G 1 (decAt dd_RC_add 21 rfl) (by decide) ?_
    refine v_iadd G (decAt dd_RC_add 22 rfl) ?_
    refine v_ri (y := (nI (sz + 1))) (nI_1 sz) ?_
    refine v_puti G (decAt dd_RC_add 23 rfl) f_RC_75 rfl rfl rfl ?_
    refine v_aload_n G (decAt dd_RC_add 24 rfl) rfl ?_
    refine v_iconst G 0 (decAt dd_RC_add 25 rfl) (by decide) ?_
    refine v_puti G (decAt dd_RC_add 26 rfl) f_RC_79 rfl rfl rfl ?_
    refine v_aload_n G (decAt dd_RC_add 27 rfl) rfl ?_
    refine v_geti G (decAt dd_RC_add 28 rfl) f_RC_75 ?_
    refine v_ri (y := (nI (sz + 1))) rfl ?_
    exact v_iret G (decAt dd_RC_add 29 rfl) rfl ⟨rfl, rfl, rfl, rfl, rfl, rfl⟩
  · skip
    exact absurd c7 (fun z => by have := (nI_eq (a := sz) (b := 400) (by omega) (by omega)).mp z; omega)
set_option maxHeartbeats 4000000 in
theorem c_RC_clear (l : Launch) {E : Bs} (hE : Hb E) {ρ : Nat → Nat} {g A : Nat → Nat → Int32} {n : Nat → Nat} {tx : Value}  : CW l E DC AC y_RC_clear b_RC_clear 1 none ({ frames := 0, cells := 0, slots := 0, locals := 0 } : Room) [.ref (E.o 0)] ρ g A n tx (fun r ρ' g' A' n' tx' => r = none ∧ ρ' = ρ ∧ g' = up2 (up2 g 0 2 0) 0 3 0 ∧ A' = A ∧ n' = n ∧ tx' = tx) := by
  refine CW.start [some (.ref (E.o 0))] hE (by decide) (Nat.le_of_ble_eq_true rfl) rfl ?_
  intro p e s m args below meth c G
  refine v_aload_n G (decAt dd_RC_clear 0 rfl) rfl ?_
  refine v_iconst G 0 (decAt dd_RC_clear 1 rfl) (by decide) ?_
  refine v_puti G (decAt dd_RC_clear 2 rfl) f_RC_75 rfl rfl rfl ?_
  refine v_aload_n G (decAt dd_RC_clear 3 rfl) rfl ?_
  refine v_iconst G 0 (decAt dd_RC_clear 4 rfl) (by decide) ?_
  refine v_puti G (decAt dd_RC_clear 5 rfl) f_RC_79 rfl rfl rfl ?_
  exact v_vret G (decAt dd_RC_clear 6 rfl) rfl ⟨rfl, rfl, rfl, rfl, rfl, rfl⟩
set_option maxHeartbeats 4000000 in
theorem c_RC_value (l : Launch) {E : Bs} (hE : Hb E) {ρ : Nat → Nat} {g A : Nat → Nat → Int32} {n : Nat → Nat} {tx : Value}  : CW l E DC AC y_RC_value b_RC_value 1 (some .int) ({ frames := 0, cells := 0, slots := 0, locals := 0 } : Room) [.ref (E.o 0)] ρ g A n tx (fun r ρ' g' A' n' tx' => r = some (.int (g 0 22)) ∧ ρ' = ρ ∧ g' = g ∧ A' = A ∧ n' = n ∧ tx' = tx) := by
  refine CW.start [some (.ref (E.o 0))] hE (by decide) (Nat.le_of_ble_eq_true rfl) rfl ?_
  intro p e s m args below meth c G
  refine v_aload_n G (decAt dd_RC_value 0 rfl) rfl ?_
  refine v_geti G (decAt dd_RC_value 1 rfl) f_RC_198 ?_
  exact v_iret G (decAt dd_RC_value 2 rfl) rfl ⟨rfl, rfl, rfl, rfl, rfl, rfl⟩
set_option maxHeartbeats 4000000 in
theorem c_RC_fuel (l : Launch) {E : Bs} (hE : Hb E) {ρ : Nat → Nat} {g A : Nat → Nat → Int32} {n : Nat → Nat} {tx : Value}  : CW l E DC AC y_RC_fuel b_RC_fuel 1 (some .int) ({ frames := 0, cells := 0, slots := 0, locals := 0 } : Room) [.ref (E.o 0)] ρ g A n tx (fun r ρ' g' A' n' tx' => r = some (.int (g 0 21)) ∧ ρ' = ρ ∧ g' = g ∧ A' = A ∧ n' = n ∧ tx' = tx) := by
  refine CW.start [some (.ref (E.o 0))] hE (by decide) (Nat.le_of_ble_eq_true rfl) rfl ?_
  intro p e s m args below meth c G
  refine v_aload_n G (decAt dd_RC_fuel 0 rfl) rfl ?_
  refine v_geti G (decAt dd_RC_fuel 1 rfl) f_RC_181 ?_
  exact v_iret G (decAt dd_RC_fuel 2 rfl) rfl ⟨rfl, rfl, rfl, rfl, rfl, rfl⟩
set_option maxHeartbeats 4000000 in
theorem c_RC_set_in (l : Launch) {E : Bs} (hE : Hb E) {ρ : Nat → Nat} {g A : Nat → Nat → Int32} {n : Nat → Nat} {tx : Value} {v : Int32} {j : Nat} (hn : RN n) (hj : j < 16) : CW l E DC AC y_RC_set b_RC_set 4 (some .int) ({ frames := 0, cells := 0, slots := 0, locals := 0 } : Room) [.ref (E.o 0), .int (nI j), .int v] ρ g A n tx (fun r ρ' g' A' n' tx' => r = some (.int (A 9 (64 + j))) ∧ ρ' = ρ ∧ g' = g ∧ A' = va_up A 9 (va_up (A 9) (64 + j) v) ∧ n' = n ∧ tx' = tx) := by
  obtain ⟨hn0, hn1, hn2, hn3, hn4, hn5, hn6, hn7, hn8, hn9⟩ := hn
  refine CW.start [some (.ref (E.o 0)), some (.int (nI j)), some (.int v), none] hE (by decide) (Nat.le_of_ble_eq_true rfl) rfl ?_
  intro p e s m args below meth c G
  refine v_iload_n G (decAt dd_RC_set 0 rfl) rfl ?_
  refine v_if_lt G 10 (decAt dd_RC_set 1 rfl) (by decide) (fun c1 => ?_) (fun c1 => ?_)
  · skip
    exact absurd c1 (nI_pos (by omega))
  · skip
    refine v_iload_n G (decAt dd_RC_set 2 rfl) rfl ?_
    refine v_bipush G 16 (decAt dd_RC_set 3 rfl) (by decide) ?_
    refine v_icmp_lt G 12 (decAt dd_RC_set 4 rfl) (by decide) (fun c7 => ?_) (fun c7 => ?_)
    · skip
      refine v_aload_n G (decAt dd_RC_set 7 rfl) rfl ?_
      refine v_geta G (decAt dd_RC_set 8 rfl) f_RC_69 ?_
      refine v_bipush G 64 (decAt dd_RC_set 9 rfl) (by decide) ?_
      refine v_iload_n G (decAt dd_RC_set 10 rfl) rfl ?_
      refine v_iadd G (decAt dd_RC_set 11 rfl) ?_
      refine v_ri (y := (nI (64 + j))) (nI_add 64 j) ?_
      refine v_iald G 9 _ (decAt dd_RC_set 12 rfl) (by decide) rfl (by first | with_reducible rfl | with_reducible exact nI_1 _ | with_reducible exact nI_add _ _ | assumption) (by omega) ?_
      refine v_istore_3 G (decAt dd_RC_set 13 rfl) (by decide) rfl ?_
      refine v_aload_n G (decAt dd_RC_set 14 rfl) rfl ?_
      refine v_geta G (decAt dd_RC_set 15 rfl) f_RC_69 ?_
      refine v_bipush G 64 (decAt dd_RC_set 16 rfl) (by decide) ?_
      refine v_iload_n G (decAt dd_RC_set 17 rfl) rfl ?_
      refine v_iadd G (decAt dd_RC_set 18 rfl) ?_
      refine v_ri (y := (nI (64 + j))) (nI_add 64 j) ?_
      refine v_iload_n G (decAt dd_RC_set 19 rfl) rfl ?_
      refine v_iast G 9 _ (decAt dd_RC_set 20 rfl) (by decide) rfl (by first | with_reducible rfl | with_reducible exact nI_1 _ | with_reducible exact nI_add _ _ | assumption) (by omega) ?_
      refine v_iload_n G (decAt dd_RC_set 21 rfl) rfl ?_
      exact v_iret G (decAt dd_RC_set 22 rfl) rfl ⟨rfl, rfl, rfl, rfl, rfl, rfl⟩
    · skip
      exact absurd (nI_lt (a := j) (b := 16) (by omega) (by omega)) c7
set_option maxHeartbeats 4000000 in
theorem c_RC_set_out (l : Launch) {E : Bs} (hE : Hb E) {ρ : Nat → Nat} {g A : Nat → Nat → Int32} {n : Nat → Nat} {tx : Value} {x v : Int32} (hj : ¬ (0 ≤ x ∧ x ≤ 15)) : CW l E DC AC y_RC_set b_RC_set 4 (some .int) ({ frames := 0, cells := 0, slots := 0, locals := 0 } : Room) [.ref (E.o 0), .int x, .int v] ρ g A n tx (fun r ρ' g' A' n' tx' => r = some (.int 0) ∧ ρ' = ρ ∧ g' = g ∧ A' = A ∧ n' = n ∧ tx' = tx) := by
  refine CW.start [some (.ref (E.o 0)), some (.int x), some (.int v), none] hE (by decide) (Nat.le_of_ble_eq_true rfl) rfl ?_
  intro p e s m args below meth c G
  refine v_iload_n G (decAt dd_RC_set 0 rfl) rfl ?_
  refine v_if_lt G 10 (decAt dd_RC_set 1 rfl) (by decide) (fun c1 => ?_) (fun c1 => ?_)
  · skip
    refine v_iconst G 0 (decAt dd_RC_set 5 rfl) (by decide) ?_
    exact v_iret G (decAt dd_RC_set 6 rfl) rfl ⟨rfl, rfl, rfl, rfl, rfl, rfl⟩
  · skip
    refine v_iload_n G (decAt dd_RC_set 2 rfl) rfl ?_
    refine v_bipush G 16 (decAt dd_RC_set 3 rfl) (by decide) ?_
    refine v_icmp_lt G 12 (decAt dd_RC_set 4 rfl) (by decide) (fun c7 => ?_) (fun c7 => ?_)
    · skip
      exact absurd ⟨i32_in c1, (by have h := c7; rw [Int32.lt_iff_toInt_lt] at h; rw [Int32.le_iff_toInt_le]; have h : x.toInt < (16 : Int) := h; show x.toInt ≤ (15 : Int); omega)⟩ hj
    · skip
      refine v_iconst G 0 (decAt dd_RC_set 5 rfl) (by decide) ?_
      exact v_iret G (decAt dd_RC_set 6 rfl) rfl ⟨rfl, rfl, rfl, rfl, rfl, rfl⟩
set_option maxHeartbeats 4000000 in
theorem c_RC_put_in (l : Launch) {E : Bs} (hE : Hb E) {ρ : Nat → Nat} {g A : Nat → Nat → Int32} {n : Nat → Nat} {tx : Value} {v : Int32} {j : Nat} (hn : RN n) (hj : j < 64) : CW l E DC AC y_RC_put b_RC_put 4 (some .int) ({ frames := 1, cells := 0, slots := 0, locals := 21 } : Room) [.ref (E.o 0), .int (nI j), .int v] ρ g A n tx (fun r ρ' g' A' n' tx' => r = some (.int (A 9 j)) ∧ ρ' = ρ ∧ g' = g ∧ A' = va_up A 9 (va_up (A 9) j v) ∧ n' = n ∧ tx' = tx) := by
  obtain ⟨hn0, hn1, hn2, hn3, hn4, hn5, hn6, hn7, hn8, hn9⟩ := hn
  refine CW.start [some (.ref (E.o 0)), some (.int (nI j)), some (.int v), none] hE (by decide) (Nat.le_of_ble_eq_true rfl) rfl ?_
  intro p e s m args below meth c G
  refine v_iload_n G (decAt dd_RC_put 0 rfl) rfl ?_
  refine v_i2l G (decAt dd_RC_put 1 rfl) ?_
  refine p_callSi G (XB_Sy G) (As := [.long (Int32.toInt64 (nI j))]) (decAt dd_RC_put 2 rfl) k_RC_173 (c_RC_isWord l hE) rfl rfl (Nat.le_of_ble_eq_true rfl) (by decide) rfl rfl (by decide) ?_
  refine v_ri (y := 1) (bI_t (by rw [Int32.toInt_toInt64, nI_toInt (by omega)]; exact decide_eq_true (by omega))) ?_
  refine v_if_ne G 10 (decAt dd_RC_put 3 rfl) (by decide) (fun _ => ?_) (fun c5 => absurd c5 (by decide))
  refine v_aload_n G (decAt dd_RC_put 6 rfl) rfl ?_
  refine v_geta G (decAt dd_RC_put 7 rfl) f_RC_69 ?_
  refine v_iload_n G (decAt dd_RC_put 8 rfl) rfl ?_
  refine v_iald G 9 _ (decAt dd_RC_put 9 rfl) (by decide) rfl (by first | with_reducible rfl | with_reducible exact nI_1 _ | with_reducible exact nI_add _ _ | assumption) (by omega) ?_
  refine v_istore_3 G (decAt dd_RC_put 10 rfl) (by decide) rfl ?_
  refine v_aload_n G (decAt dd_RC_put 11 rfl) rfl ?_
  refine v_geta G (decAt dd_RC_put 12 rfl) f_RC_69 ?_
  refine v_iload_n G (decAt dd_RC_put 13 rfl) rfl ?_
  refine v_iload_n G (decAt dd_RC_put 14 rfl) rfl ?_
  refine v_iast G 9 _ (decAt dd_RC_put 15 rfl) (by decide) rfl (by first | with_reducible rfl | with_reducible exact nI_1 _ | with_reducible exact nI_add _ _ | assumption) (by omega) ?_
  refine v_iload_n G (decAt dd_RC_put 16 rfl) rfl ?_
  exact v_iret G (decAt dd_RC_put 17 rfl) rfl ⟨rfl, rfl, rfl, rfl, rfl, rfl⟩
set_option maxHeartbeats 4000000 in
theorem c_RC_put_out (l : Launch) {E : Bs} (hE : Hb E) {ρ : Nat → Nat} {g A : Nat → Nat → Int32} {n : Nat → Nat} {tx : Value} {x v : Int32} (hj : ¬ (0 ≤ x ∧ x ≤ 63)) : CW l E DC AC y_RC_put b_RC_put 4 (some .int) ({ frames := 1, cells := 0, slots := 0, locals := 21 } : Room) [.ref (E.o 0), .int x, .int v] ρ g A n tx (fun r ρ' g' A' n' tx' => r = some (.int 0) ∧ ρ' = ρ ∧ g' = g ∧ A' = A ∧ n' = n ∧ tx' = tx) := by
  refine CW.start [some (.ref (E.o 0)), some (.int x), some (.int v), none] hE (by decide) (Nat.le_of_ble_eq_true rfl) rfl ?_
  intro p e s m args below meth c G
  refine v_iload_n G (decAt dd_RC_put 0 rfl) rfl ?_
  refine v_i2l G (decAt dd_RC_put 1 rfl) ?_
  refine p_callSi G (XB_Sy G) (As := [.long (Int32.toInt64 x)]) (decAt dd_RC_put 2 rfl) k_RC_173 (c_RC_isWord l hE) rfl rfl (Nat.le_of_ble_eq_true rfl) (by decide) rfl rfl (by decide) ?_
  refine v_ri (y := 0) (bI_f (by rw [Int32.toInt_toInt64, ← isW_in]; exact decide_eq_false hj)) ?_
  refine v_if_ne G 10 (decAt dd_RC_put 3 rfl) (by decide) (fun c5 => absurd c5 (by decide)) (fun _ => ?_)
  refine v_iconst G 0 (decAt dd_RC_put 4 rfl) (by decide) ?_
  exact v_iret G (decAt dd_RC_put 5 rfl) rfl ⟨rfl, rfl, rfl, rfl, rfl, rfl⟩
set_option maxHeartbeats 4000000 in
theorem c_CD_emit (l : Launch) {E : Bs} (hE : Hb E) {ρ : Nat → Nat} {g A : Nat → Nat → Int32} {n : Nat → Nat} {tx : Value} {op arg : Int32} {mm : Nat} (hm : g 1 1 = nI mm) (hl : mm + 1 < n 11) : CW l E DC AC y_CD_emit b_CD_emit 3 none ({ frames := 0, cells := 0, slots := 0, locals := 0 } : Room) [.ref (E.o 1), .int op, .int arg] ρ g A n tx (fun r ρ' g' A' n' tx' => r = none ∧ ρ' = ρ ∧ g' = up2 g 1 1 (nI (mm + 2)) ∧ A' = va_up A 11 (va_up (va_up (A 11) mm op) (mm + 1) arg) ∧ n' = n ∧ tx' = tx) := by
  refine CW.start [some (.ref (E.o 1)), some (.int op), some (.int arg)] hE (by decide) (Nat.le_of_ble_eq_true rfl) rfl ?_
  intro p e s m args below meth c G
  refine v_aload_n G (decAt dd_CD_emit 0 rfl) rfl ?_
  refine v_geta G (decAt dd_CD_emit 1 rfl) f_CD_7 ?_
  refine v_aload_n G (decAt dd_CD_emit 2 rfl) rfl ?_
  refine v_geti G (decAt dd_CD_emit 3 rfl) f_CD_13 ?_
  refine v_ri (y := (nI mm)) hm ?_
  refine v_iload_n G (decAt dd_CD_emit 4 rfl) rfl ?_
  refine v_iast G 11 _ (decAt dd_CD_emit 5 rfl) (by decide) rfl (by first | with_reducible rfl | with_reducible exact nI_1 _ | with_reducible exact nI_add _ _ | assumption) (by omega) ?_
  refine v_aload_n G (decAt dd_CD_emit 6 rfl) rfl ?_
  refine v_geta G (decAt dd_CD_emit 7 rfl) f_CD_7 ?_
  refine v_aload_n G (decAt dd_CD_emit 8 rfl) rfl ?_
  refine v_geti G (decAt dd_CD_emit 9 rfl) f_CD_13 ?_
  refine v_ri (y := (nI mm)) hm ?_
  refine v_iconst G 1 (decAt dd_CD_emit 10 rfl) (by decide) ?_
  refine v_iadd G (decAt dd_CD_emit 11 rfl) ?_
  refine v_iload_n G (decAt dd_CD_emit 12 rfl) rfl ?_
  refine v_iast G 11 _ (decAt dd_CD_emit 13 rfl) (by decide) rfl (by first | with_reducible rfl | with_reducible exact nI_1 _ | with_reducible exact nI_add _ _ | assumption) (by omega) ?_
  refine v_aload_n G (decAt dd_CD_emit 14 rfl) rfl ?_
  refine v_dup G (decAt dd_CD_emit 15 rfl) rfl ?_
  refine v_geti G (decAt dd_CD_emit 16 rfl) f_CD_13 ?_
  refine v_ri (y := (nI mm)) hm ?_
  refine v_iconst G 2 (decAt dd_CD_emit 17 rfl) (by decide) ?_
  refine v_iadd G (decAt dd_CD_emit 18 rfl) ?_
  refine v_ri (y := (nI (mm + 2))) (nI_add mm 2) ?_
  refine v_puti G (decAt dd_CD_emit 19 rfl) f_CD_13 rfl rfl rfl ?_
  exact v_vret G (decAt dd_CD_emit 20 rfl) rfl ⟨rfl, rfl, rfl, bx_uu _ _ _ _, rfl, rfl⟩
set_option maxHeartbeats 4000000 in
theorem c_BT_keep (l : Launch) {E : Bs} (hE : Hb E) {ρ : Nat → Nat} {g A : Nat → Nat → Int32} {n : Nat → Nat} {tx : Value} {op arg : Int32} {mm : Nat} (hm : g 2 3 = nI mm) (hl : mm + 1 < n 13) : CW l E DC AC y_BT_keep b_BT_keep 3 none ({ frames := 0, cells := 0, slots := 0, locals := 0 } : Room) [.ref (E.o 2), .int op, .int arg] ρ g A n tx (fun r ρ' g' A' n' tx' => r = none ∧ ρ' = ρ ∧ g' = up2 g 2 3 (nI (mm + 2)) ∧ A' = va_up A 13 (va_up (va_up (A 13) mm op) (mm + 1) arg) ∧ n' = n ∧ tx' = tx) := by
  refine CW.start [some (.ref (E.o 2)), some (.int op), some (.int arg)] hE (by decide) (Nat.le_of_ble_eq_true rfl) rfl ?_
  intro p e s m args below meth c G
  refine v_aload_n G (decAt dd_BT_keep 0 rfl) rfl ?_
  refine v_geta G (decAt dd_BT_keep 1 rfl) f_BT_15 ?_
  refine v_aload_n G (decAt dd_BT_keep 2 rfl) rfl ?_
  refine v_geti G (decAt dd_BT_keep 3 rfl) f_BT_49 ?_
  refine v_ri (y := (nI mm)) hm ?_
  refine v_iload_n G (decAt dd_BT_keep 4 rfl) rfl ?_
  refine v_iast G 13 _ (decAt dd_BT_keep 5 rfl) (by decide) rfl (by first | with_reducible rfl | with_reducible exact nI_1 _ | with_reducible exact nI_add _ _ | assumption) (by omega) ?_
  refine v_aload_n G (decAt dd_BT_keep 6 rfl) rfl ?_
  refine v_geta G (decAt dd_BT_keep 7 rfl) f_BT_15 ?_
  refine v_aload_n G (decAt dd_BT_keep 8 rfl) rfl ?_
  refine v_geti G (decAt dd_BT_keep 9 rfl) f_BT_49 ?_
  refine v_ri (y := (nI mm)) hm ?_
  refine v_iconst G 1 (decAt dd_BT_keep 10 rfl) (by decide) ?_
  refine v_iadd G (decAt dd_BT_keep 11 rfl) ?_
  refine v_iload_n G (decAt dd_BT_keep 12 rfl) rfl ?_
  refine v_iast G 13 _ (decAt dd_BT_keep 13 rfl) (by decide) rfl (by first | with_reducible rfl | with_reducible exact nI_1 _ | with_reducible exact nI_add _ _ | assumption) (by omega) ?_
  refine v_aload_n G (decAt dd_BT_keep 14 rfl) rfl ?_
  refine v_dup G (decAt dd_BT_keep 15 rfl) rfl ?_
  refine v_geti G (decAt dd_BT_keep 16 rfl) f_BT_49 ?_
  refine v_ri (y := (nI mm)) hm ?_
  refine v_iconst G 2 (decAt dd_BT_keep 17 rfl) (by decide) ?_
  refine v_iadd G (decAt dd_BT_keep 18 rfl) ?_
  refine v_ri (y := (nI (mm + 2))) (nI_add mm 2) ?_
  refine v_puti G (decAt dd_BT_keep 19 rfl) f_BT_49 rfl rfl rfl ?_
  exact v_vret G (decAt dd_BT_keep 20 rfl) rfl ⟨rfl, rfl, rfl, bx_uu _ _ _ _, rfl, rfl⟩
/-- whether the b-th instruction from the end is a constant -/
def isC (τ : Cod) (b : Nat) : Bool := match τ[b]? with
  | some (n, _) => decide (n = 0)
  | none => false
theorem TI.at {f : Nat → Int32} : ∀ {τ : Cod} {b n : Nat} {k : Int32}, TI f τ → τ[b]? = some (n, k) → f (2 * (τ.length - 1 - b)) = stv 2 n ∧ f (2 * (τ.length - 1 - b) + 1) = k ∧ n ≤ 20
  | [], b, n, k, _, hb => by simp at hb
  | (n', k') :: r, 0, n, k, h, hb => by
    simp at hb
    obtain ⟨rfl, rfl⟩ := hb
    exact ⟨h.1, h.2.1, h.2.2.1⟩
  | (n', k') :: r, b + 1, n, k, h, hb => by
    have := TI.at h.2.2.2 (b := b) (n := n) (k := k) (by simpa using hb)
    rw [show ((n', k') :: r).length - 1 - (b + 1) = r.length - 1 - b by simp; omega]
    exact this

set_option maxHeartbeats 4000000 in
theorem c_BT_isConstant (l : Launch) {E : Bs} (hE : Hb E) {ρ : Nat → Nat} {g A : Nat → Nat → Int32} {n : Nat → Nat} {tx : Value} {τ : Cod} {b : Nat} (hb : b ≤ 1) (hm : g 2 3 = nI (2 * τ.length)) (hl : 2 * τ.length ≤ n 13) (hn13 : n 13 = 256) (hT : TI (A 13) τ) : CW l E DC AC y_BT_isConstant b_BT_isConstant 2 (some .boolean) ({ frames := 0, cells := 0, slots := 0, locals := 0 } : Room) [.ref (E.o 2), .int (nI (2 * b + 2))] ρ g A n tx (fun r ρ' g' A' n' tx' => r = some (.int (bI (isC τ b))) ∧ ρ' = ρ ∧ g' = g ∧ A' = A ∧ n' = n ∧ tx' = tx) := by
  refine CW.start [some (.ref (E.o 2)), some (.int (nI (2 * b + 2)))] hE (by decide) (Nat.le_of_ble_eq_true rfl) rfl ?_
  intro p e s m args below meth c G
  cases hq : τ[b]? with
  | none =>
    have hlen : τ.length ≤ b := List.getElem?_eq_none_iff.mp hq
    have hr : isC τ b = false := by unfold isC; rw [hq]
    refine v_aload_n G (decAt dd_BT_isConstant 0 rfl) rfl ?_
    refine v_geti G (decAt dd_BT_isConstant 1 rfl) f_BT_49 ?_
    refine v_ri (y := (nI (2 * τ.length))) hm ?_
    refine v_iload_n G (decAt dd_BT_isConstant 2 rfl) rfl ?_
    refine v_icmp_lt G 26 (decAt dd_BT_isConstant 3 rfl) (by decide) (fun c5 => ?_) (fun c5 => ?_)
    · skip
      refine v_iconst G 0 (decAt dd_BT_isConstant 14 rfl) (by decide) ?_
      exact v_zret G (decAt dd_BT_isConstant 15 rfl) rfl rfl ⟨some_i (by rw [hr]; rfl), rfl, rfl, rfl, rfl, rfl⟩
    · skip
      exact absurd (nI_lt (a := 2 * τ.length) (b := 2 * b + 2) (by omega) (by omega)) c5
  | some q =>
    obtain ⟨N, x⟩ := q
    have hlen : b < τ.length := (List.getElem?_eq_some_iff.mp hq).1
    obtain ⟨t1, t2, t3⟩ := hT.at hq
    have hr : isC τ b = decide (N = 0) := by unfold isC; rw [hq]
    refine v_aload_n G (decAt dd_BT_isConstant 0 rfl) rfl ?_
    refine v_geti G (decAt dd_BT_isConstant 1 rfl) f_BT_49 ?_
    refine v_ri (y := (nI (2 * τ.length))) hm ?_
    refine v_iload_n G (decAt dd_BT_isConstant 2 rfl) rfl ?_
    refine v_icmp_lt G 26 (decAt dd_BT_isConstant 3 rfl) (by decide) (fun c5 => ?_) (fun c5 => ?_)
    · skip
      exact absurd c5 (nI_nlt (by omega) (by omega))
    · skip
      refine v_aload_n G (decAt dd_BT_isConstant 4 rfl) rfl ?_
      refine v_geta G (decAt dd_BT_isConstant 5 rfl) f_BT_15 ?_
      refine v_aload_n G (decAt dd_BT_isConstant 6 rfl) rfl ?_
      refine v_geti G (decAt dd_BT_isConstant 7 rfl) f_BT_49 ?_
      refine v_ri (y := (nI (2 * τ.length))) hm ?_
      refine v_iload_n G (decAt dd_BT_isConstant 8 rfl) rfl ?_
      refine v_isub G (decAt dd_BT_isConstant 9 rfl) ?_
      refine v_ri (y := (nI (2 * (τ.length - 1 - b)))) (by rw [show 2 * τ.length = 2 * (τ.length - 1 - b) + (2 * b + 2) by omega]; exact nI_sub _ _) ?_
      refine v_iald G 13 (2 * (τ.length - 1 - b)) (decAt dd_BT_isConstant 10 rfl) (by decide) rfl rfl (by omega) ?_
      refine v_ri (y := stv 2 N) t1 ?_
      refine v_if_ne G 26 (decAt dd_BT_isConstant 11 rfl) (by decide) (fun c19 => ?_) (fun c19 => ?_)
      · skip
        refine v_iconst G 0 (decAt dd_BT_isConstant 14 rfl) (by decide) ?_
        exact v_zret G (decAt dd_BT_isConstant 15 rfl) rfl rfl ⟨some_i (by rw [hr, decide_eq_false (fun z => c19 ((stv2_0 N t3).mpr z))]; rfl), rfl, rfl, rfl, rfl, rfl⟩
      · skip
        refine v_iconst G 1 (decAt dd_BT_isConstant 12 rfl) (by decide) ?_
        refine v_goto G 27 (decAt dd_BT_isConstant 13 rfl) (by decide) ?_
        exact v_zret G (decAt dd_BT_isConstant 15 rfl) rfl rfl ⟨some_i (by rw [hr, decide_eq_true ((stv2_0 N t3).mp (by first | exact Classical.not_not.mp c19 | exact c19))]; rfl), rfl, rfl, rfl, rfl, rfl⟩
set_option maxHeartbeats 4000000 in
theorem c_BT_folded (l : Launch) {E : Bs} (hE : Hb E) {ρ : Nat → Nat} {g A : Nat → Nat → Int32} {n : Nat → Nat} {tx : Value} {τ : Cod} {M : Nat} {a : Int32} (hm : g 2 3 = nI (2 * τ.length)) (hl : 2 * τ.length ≤ n 13) (hn13 : n 13 = 256) (hT : TI (A 13) τ) (hM : M ≤ 20) (ha : argOK M a = true) : CW l E DC AC y_BT_folded b_BT_folded 5 (some .boolean) ({ frames := 2, cells := 0, slots := 0, locals := 44 } : Room) [.ref (E.o 2), .int (stv 2 M), .int a] ρ g A n tx (fun r ρ' g' A' n' tx' => ∃ f' : Nat → Int32, r = some (.int (bI (fold1 τ M a).isSome)) ∧ TI f' ((fold1 τ M a).getD τ) ∧ ρ' = ρ ∧ g' = up2 g 2 3 (nI (2 * ((fold1 τ M a).getD τ).length)) ∧ A' = va_up A 13 f' ∧ n' = n ∧ tx' = tx) := by
  refine CW.start [some (.ref (E.o 2)), some (.int (stv 2 M)), some (.int a), none, none] hE (by decide) (Nat.le_of_ble_eq_true rfl) rfl ?_
  intro p e s m args below meth c G
  rcases (show M = 0 ∨ M = 1 ∨ M = 2 ∨ M = 3 ∨ M = 4 ∨ M = 5 ∨ M = 6 ∨ M = 7 ∨ M = 8 ∨ M = 9 ∨ M = 10 ∨ M = 11 ∨ M = 12 ∨ M = 13 ∨ M = 14 ∨ M = 15 ∨ M = 16 ∨ M = 17 ∨ M = 18 ∨ M = 19 ∨ M = 20 by omega) with rfl | rfl | rfl | rfl | rfl | rfl | rfl | rfl | rfl | rfl | rfl | rfl | rfl | rfl | rfl | rfl | rfl | rfl | rfl | rfl | rfl
  · skip
    refine v_L (L' := [some (.ref (E.o 2)), some (.int (nI 0)), some (.int a), none, none]) (fun _ _ z => z) ?_
    refine v_iload_n G (decAt dd_BT_folded 0 rfl) rfl ?_
    refine v_bipush G 8 (decAt dd_BT_folded 1 rfl) (by decide) ?_
    refine v_icmp_eq G 12 (decAt dd_BT_folded 2 rfl) (by decide) (fun c3 => absurd c3 (by decide)) (fun _ => ?_)
    refine v_iload_n G (decAt dd_BT_folded 3 rfl) rfl ?_
    refine v_bipush G 9 (decAt dd_BT_folded 4 rfl) (by decide) ?_
    refine v_icmp_ne G 67 (decAt dd_BT_folded 5 rfl) (by decide) (fun _ => ?_) (fun c9 => absurd c9 (by decide))
    refine v_iload_n G (decAt dd_BT_folded 40 rfl) rfl ?_
    refine v_bipush G 10 (decAt dd_BT_folded 41 rfl) (by decide) ?_
    refine v_icmp_eq G 79 (decAt dd_BT_folded 42 rfl) (by decide) (fun c70 => absurd c70 (by decide)) (fun _ => ?_)
    refine v_iload_n G (decAt dd_BT_folded 43 rfl) rfl ?_
    refine v_bipush G 11 (decAt dd_BT_folded 44 rfl) (by decide) ?_
    refine v_icmp_ne G 197 (decAt dd_BT_folded 45 rfl) (by decide) (fun _ => ?_) (fun c76 => absurd c76 (by decide))
    refine v_iload_n G (decAt dd_BT_folded 114 rfl) rfl ?_
    refine v_bipush G 14 (decAt dd_BT_folded 115 rfl) (by decide) ?_
    refine v_icmp_eq G 209 (decAt dd_BT_folded 116 rfl) (by decide) (fun c200 => absurd c200 (by decide)) (fun _ => ?_)
    refine v_iload_n G (decAt dd_BT_folded 117 rfl) rfl ?_
    refine v_bipush G 15 (decAt dd_BT_folded 118 rfl) (by decide) ?_
    refine v_icmp_ne G 279 (decAt dd_BT_folded 119 rfl) (by decide) (fun _ => ?_) (fun c206 => absurd c206 (by decide))
    refine v_iload_n G (decAt dd_BT_folded 160 rfl) rfl ?_
    refine v_bipush G 19 (decAt dd_BT_folded 161 rfl) (by decide) ?_
    refine v_icmp_ne G 365 (decAt dd_BT_folded 162 rfl) (by decide) (fun _ => ?_) (fun c282 => absurd c282 (by decide))
    refine v_iconst G 0 (decAt dd_BT_folded 210 rfl) (by decide) ?_
    exact v_zret G (decAt dd_BT_folded 211 rfl) rfl rfl ⟨A 13, rfl, hT, rfl, (up2_id hm).symm, (va_up_id A 13).symm, rfl, rfl⟩
  · skip
    refine v_L (L' := [some (.ref (E.o 2)), some (.int (nI 1)), some (.int a), none, none]) (fun _ _ z => z) ?_
    refine v_iload_n G (decAt dd_BT_folded 0 rfl) rfl ?_
    refine v_bipush G 8 (decAt dd_BT_folded 1 rfl) (by decide) ?_
    refine v_icmp_eq G 12 (decAt dd_BT_folded 2 rfl) (by decide) (fun c3 => absurd c3 (by decide)) (fun _ => ?_)
    refine v_iload_n G (decAt dd_BT_folded 3 rfl) rfl ?_
    refine v_bipush G 9 (decAt dd_BT_folded 4 rfl) (by decide) ?_
    refine v_icmp_ne G 67 (decAt dd_BT_folded 5 rfl) (by decide) (fun _ => ?_) (fun c9 => absurd c9 (by decide))
    refine v_iload_n G (decAt dd_BT_folded 40 rfl) rfl ?_
    refine v_bipush G 10 (decAt dd_BT_folded 41 rfl) (by decide) ?_
    refine v_icmp_eq G 79 (decAt dd_BT_folded 42 rfl) (by decide) (fun c70 => absurd c70 (by decide)) (fun _ => ?_)
    refine v_iload_n G (decAt dd_BT_folded 43 rfl) rfl ?_
    refine v_bipush G 11 (decAt dd_BT_folded 44 rfl) (by decide) ?_
    refine v_icmp_ne G 197 (decAt dd_BT_folded 45 rfl) (by decide) (fun _ => ?_) (fun c76 => absurd c76 (by decide))
    refine v_iload_n G (decAt dd_BT_folded 114 rfl) rfl ?_
    refine v_bipush G 14 (decAt dd_BT_folded 115 rfl) (by decide) ?_
    refine v_icmp_eq G 209 (decAt dd_BT_folded 116 rfl) (by decide) (fun c200 => absurd c200 (by decide)) (fun _ => ?_)
    refine v_iload_n G (decAt dd_BT_folded 117 rfl) rfl ?_
    refine v_bipush G 15 (decAt dd_BT_folded 118 rfl) (by decide) ?_
    refine v_icmp_ne G 279 (decAt dd_BT_folded 119 rfl) (by decide) (fun _ => ?_) (fun c206 => absurd c206 (by decide))
    refine v_iload_n G (decAt dd_BT_folded 160 rfl) rfl ?_
    refine v_bipush G 19 (decAt dd_BT_folded 161 rfl) (by decide) ?_
    refine v_icmp_ne G 365 (decAt dd_BT_folded 162 rfl) (by decide) (fun _ => ?_) (fun c282 => absurd c282 (by decide))
    refine v_iconst G 0 (decAt dd_BT_folded 210 rfl) (by decide) ?_
    exact v_zret G (decAt dd_BT_folded 211 rfl) rfl rfl ⟨A 13, rfl, hT, rfl, (up2_id hm).symm, (va_up_id A 13).symm, rfl, rfl⟩
  · skip
    refine v_L (L' := [some (.ref (E.o 2)), some (.int (nI 3)), some (.int a), none, none]) (fun _ _ z => z) ?_
    refine v_iload_n G (decAt dd_BT_folded 0 rfl) rfl ?_
    refine v_bipush G 8 (decAt dd_BT_folded 1 rfl) (by decide) ?_
    refine v_icmp_eq G 12 (decAt dd_BT_folded 2 rfl) (by decide) (fun c3 => absurd c3 (by decide)) (fun _ => ?_)
    refine v_iload_n G (decAt dd_BT_folded 3 rfl) rfl ?_
    refine v_bipush G 9 (decAt dd_BT_folded 4 rfl) (by decide) ?_
    refine v_icmp_ne G 67 (decAt dd_BT_folded 5 rfl) (by decide) (fun _ => ?_) (fun c9 => absurd c9 (by decide))
    refine v_iload_n G (decAt dd_BT_folded 40 rfl) rfl ?_
    refine v_bipush G 10 (decAt dd_BT_folded 41 rfl) (by decide) ?_
    refine v_icmp_eq G 79 (decAt dd_BT_folded 42 rfl) (by decide) (fun c70 => absurd c70 (by decide)) (fun _ => ?_)
    refine v_iload_n G (decAt dd_BT_folded 43 rfl) rfl ?_
    refine v_bipush G 11 (decAt dd_BT_folded 44 rfl) (by decide) ?_
    refine v_icmp_ne G 197 (decAt dd_BT_folded 45 rfl) (by decide) (fun _ => ?_) (fun c76 => absurd c76 (by decide))
    refine v_iload_n G (decAt dd_BT_folded 114 rfl) rfl ?_
    refine v_bipush G 14 (decAt dd_BT_folded 115 rfl) (by decide) ?_
    refine v_icmp_eq G 209 (decAt dd_BT_folded 116 rfl) (by decide) (fun c200 => absurd c200 (by decide)) (fun _ => ?_)
    refine v_iload_n G (decAt dd_BT_folded 117 rfl) rfl ?_
    refine v_bipush G 15 (decAt dd_BT_folded 118 rfl) (by decide) ?_
    refine v_icmp_ne G 279 (decAt dd_BT_folded 119 rfl) (by decide) (fun _ => ?_) (fun c206 => absurd c206 (by decide))
    refine v_iload_n G (decAt dd_BT_folded 160 rfl) rfl ?_
    refine v_bipush G 19 (decAt dd_BT_folded 161 rfl) (by decide) ?_
    refine v_icmp_ne G 365 (decAt dd_BT_folded 162 rfl) (by decide) (fun _ => ?_) (fun c282 => absurd c282 (by decide))
    refine v_iconst G 0 (decAt dd_BT_folded 210 rfl) (by decide) ?_
    exact v_zret G (decAt dd_BT_folded 211 rfl) rfl rfl ⟨A 13, rfl, hT, rfl, (up2_id hm).symm, (va_up_id A 13).symm, rfl, rfl⟩
  · skip
    refine v_L (L' := [some (.ref (E.o 2)), some (.int (nI 5)), some (.int a), none, none]) (fun _ _ z => z) ?_
    refine v_iload_n G (decAt dd_BT_folded 0 rfl) rfl ?_
    refine v_bipush G 8 (decAt dd_BT_folded 1 rfl) (by decide) ?_
    refine v_icmp_eq G 12 (decAt dd_BT_folded 2 rfl) (by decide) (fun c3 => absurd c3 (by decide)) (fun _ => ?_)
    refine v_iload_n G (decAt dd_BT_folded 3 rfl) rfl ?_
    refine v_bipush G 9 (decAt dd_BT_folded 4 rfl) (by decide) ?_
    refine v_icmp_ne G 67 (decAt dd_BT_folded 5 rfl) (by decide) (fun _ => ?_) (fun c9 => absurd c9 (by decide))
    refine v_iload_n G (decAt dd_BT_folded 40 rfl) rfl ?_
    refine v_bipush G 10 (decAt dd_BT_folded 41 rfl) (by decide) ?_
    refine v_icmp_eq G 79 (decAt dd_BT_folded 42 rfl) (by decide) (fun c70 => absurd c70 (by decide)) (fun _ => ?_)
    refine v_iload_n G (decAt dd_BT_folded 43 rfl) rfl ?_
    refine v_bipush G 11 (decAt dd_BT_folded 44 rfl) (by decide) ?_
    refine v_icmp_ne G 197 (decAt dd_BT_folded 45 rfl) (by decide) (fun _ => ?_) (fun c76 => absurd c76 (by decide))
    refine v_iload_n G (decAt dd_BT_folded 114 rfl) rfl ?_
    refine v_bipush G 14 (decAt dd_BT_folded 115 rfl) (by decide) ?_
    refine v_icmp_eq G 209 (decAt dd_BT_folded 116 rfl) (by decide) (fun c200 => absurd c200 (by decide)) (fun _ => ?_)
    refine v_iload_n G (decAt dd_BT_folded 117 rfl) rfl ?_
    refine v_bipush G 15 (decAt dd_BT_folded 118 rfl) (by decide) ?_
    refine v_icmp_ne G 279 (decAt dd_BT_folded 119 rfl) (by decide) (fun _ => ?_) (fun c206 => absurd c206 (by decide))
    refine v_iload_n G (decAt dd_BT_folded 160 rfl) rfl ?_
    refine v_bipush G 19 (decAt dd_BT_folded 161 rfl) (by decide) ?_
    refine v_icmp_ne G 365 (decAt dd_BT_folded 162 rfl) (by decide) (fun _ => ?_) (fun c282 => absurd c282 (by decide))
    refine v_iconst G 0 (decAt dd_BT_folded 210 rfl) (by decide) ?_
    exact v_zret G (decAt dd_BT_folded 211 rfl) rfl rfl ⟨A 13, rfl, hT, rfl, (up2_id hm).symm, (va_up_id A 13).symm, rfl, rfl⟩
  · skip
    refine v_L (L' := [some (.ref (E.o 2)), some (.int (nI 6)), some (.int a), none, none]) (fun _ _ z => z) ?_
    refine v_iload_n G (decAt dd_BT_folded 0 rfl) rfl ?_
    refine v_bipush G 8 (decAt dd_BT_folded 1 rfl) (by decide) ?_
    refine v_icmp_eq G 12 (decAt dd_BT_folded 2 rfl) (by decide) (fun c3 => absurd c3 (by decide)) (fun _ => ?_)
    refine v_iload_n G (decAt dd_BT_folded 3 rfl) rfl ?_
    refine v_bipush G 9 (decAt dd_BT_folded 4 rfl) (by decide) ?_
    refine v_icmp_ne G 67 (decAt dd_BT_folded 5 rfl) (by decide) (fun _ => ?_) (fun c9 => absurd c9 (by decide))
    refine v_iload_n G (decAt dd_BT_folded 40 rfl) rfl ?_
    refine v_bipush G 10 (decAt dd_BT_folded 41 rfl) (by decide) ?_
    refine v_icmp_eq G 79 (decAt dd_BT_folded 42 rfl) (by decide) (fun c70 => absurd c70 (by decide)) (fun _ => ?_)
    refine v_iload_n G (decAt dd_BT_folded 43 rfl) rfl ?_
    refine v_bipush G 11 (decAt dd_BT_folded 44 rfl) (by decide) ?_
    refine v_icmp_ne G 197 (decAt dd_BT_folded 45 rfl) (by decide) (fun _ => ?_) (fun c76 => absurd c76 (by decide))
    refine v_iload_n G (decAt dd_BT_folded 114 rfl) rfl ?_
    refine v_bipush G 14 (decAt dd_BT_folded 115 rfl) (by decide) ?_
    refine v_icmp_eq G 209 (decAt dd_BT_folded 116 rfl) (by decide) (fun c200 => absurd c200 (by decide)) (fun _ => ?_)
    refine v_iload_n G (decAt dd_BT_folded 117 rfl) rfl ?_
    refine v_bipush G 15 (decAt dd_BT_folded 118 rfl) (by decide) ?_
    refine v_icmp_ne G 279 (decAt dd_BT_folded 119 rfl) (by decide) (fun _ => ?_) (fun c206 => absurd c206 (by decide))
    refine v_iload_n G (decAt dd_BT_folded 160 rfl) rfl ?_
    refine v_bipush G 19 (decAt dd_BT_folded 161 rfl) (by decide) ?_
    refine v_icmp_ne G 365 (decAt dd_BT_folded 162 rfl) (by decide) (fun _ => ?_) (fun c282 => absurd c282 (by decide))
    refine v_iconst G 0 (decAt dd_BT_folded 210 rfl) (by decide) ?_
    exact v_zret G (decAt dd_BT_folded 211 rfl) rfl rfl ⟨A 13, rfl, hT, rfl, (up2_id hm).symm, (va_up_id A 13).symm, rfl, rfl⟩
  · skip
    rcases τ with _ | ⟨⟨_ | N, x⟩, r⟩
    · skip
      refine v_L (L' := [some (.ref (E.o 2)), some (.int (nI 8)), some (.int a), none, none]) (fun _ _ z => z) ?_
      refine v_iload_n G (decAt dd_BT_folded 0 rfl) rfl ?_
      refine v_bipush G 8 (decAt dd_BT_folded 1 rfl) (by decide) ?_
      refine v_icmp_eq G 12 (decAt dd_BT_folded 2 rfl) (by decide) (fun _ => ?_) (fun c3 => absurd c3 (by decide))
      refine v_aload_n G (decAt dd_BT_folded 6 rfl) rfl ?_
      refine v_iconst G 2 (decAt dd_BT_folded 7 rfl) (by decide) ?_
      refine v_callVis G (As := [.int (nI 2)]) (decAt dd_BT_folded 8 rfl) k_BT_75 (c_BT_isConstant l hE (τ := ([] : Cod)) (b := 0) (by omega) hm hl hn13 hT) (by decide) rfl rfl rfl (Nat.le_of_ble_eq_true rfl) (by decide) rfl rfl (by decide) ?_
      refine v_ri (y := 0) rfl ?_
      refine v_if_eq G 67 (decAt dd_BT_folded 9 rfl) (by decide) (fun _ => ?_) (fun c17 => absurd c17 (by decide))
      refine v_iload_n G (decAt dd_BT_folded 40 rfl) rfl ?_
      refine v_bipush G 10 (decAt dd_BT_folded 41 rfl) (by decide) ?_
      refine v_icmp_eq G 79 (decAt dd_BT_folded 42 rfl) (by decide) (fun c70 => absurd c70 (by decide)) (fun _ => ?_)
      refine v_iload_n G (decAt dd_BT_folded 43 rfl) rfl ?_
      refine v_bipush G 11 (decAt dd_BT_folded 44 rfl) (by decide) ?_
      refine v_icmp_ne G 197 (decAt dd_BT_folded 45 rfl) (by decide) (fun _ => ?_) (fun c76 => absurd c76 (by decide))
      refine v_iload_n G (decAt dd_BT_folded 114 rfl) rfl ?_
      refine v_bipush G 14 (decAt dd_BT_folded 115 rfl) (by decide) ?_
      refine v_icmp_eq G 209 (decAt dd_BT_folded 116 rfl) (by decide) (fun c200 => absurd c200 (by decide)) (fun _ => ?_)
      refine v_iload_n G (decAt dd_BT_folded 117 rfl) rfl ?_
      refine v_bipush G 15 (decAt dd_BT_folded 118 rfl) (by decide) ?_
      refine v_icmp_ne G 279 (decAt dd_BT_folded 119 rfl) (by decide) (fun _ => ?_) (fun c206 => absurd c206 (by decide))
      refine v_iload_n G (decAt dd_BT_folded 160 rfl) rfl ?_
      refine v_bipush G 19 (decAt dd_BT_folded 161 rfl) (by decide) ?_
      refine v_icmp_ne G 365 (decAt dd_BT_folded 162 rfl) (by decide) (fun _ => ?_) (fun c282 => absurd c282 (by decide))
      refine v_iconst G 0 (decAt dd_BT_folded 210 rfl) (by decide) ?_
      exact v_zret G (decAt dd_BT_folded 211 rfl) rfl rfl ⟨A 13, rfl, hT, rfl, (up2_id hm).symm, (va_up_id A 13).symm, rfl, rfl⟩
    · skip
      obtain ⟨t1, t2, t3, t4⟩ := id hT
      have hl2 : 2 * (r.length + 1) ≤ n 13 := hl
      refine v_L (L' := [some (.ref (E.o 2)), some (.int (nI 8)), some (.int a), none, none]) (fun _ _ z => z) ?_
      refine v_iload_n G (decAt dd_BT_folded 0 rfl) rfl ?_
      refine v_bipush G 8 (decAt dd_BT_folded 1 rfl) (by decide) ?_
      refine v_icmp_eq G 12 (decAt dd_BT_folded 2 rfl) (by decide) (fun _ => ?_) (fun c3 => absurd c3 (by decide))
      refine v_aload_n G (decAt dd_BT_folded 6 rfl) rfl ?_
      refine v_iconst G 2 (decAt dd_BT_folded 7 rfl) (by decide) ?_
      refine v_callVis G (As := [.int (nI 2)]) (decAt dd_BT_folded 8 rfl) k_BT_75 (c_BT_isConstant l hE (τ := (0, x) :: r) (b := 0) (by omega) hm hl hn13 hT) (by decide) rfl rfl rfl (Nat.le_of_ble_eq_true rfl) (by decide) rfl rfl (by decide) ?_
      refine v_ri (y := 1) rfl ?_
      refine v_if_eq G 67 (decAt dd_BT_folded 9 rfl) (by decide) (fun c17 => absurd c17 (by decide)) (fun _ => ?_)
      refine v_aload_n G (decAt dd_BT_folded 10 rfl) rfl ?_
      refine v_geta G (decAt dd_BT_folded 11 rfl) f_BT_15 ?_
      refine v_aload_n G (decAt dd_BT_folded 12 rfl) rfl ?_
      refine v_geti G (decAt dd_BT_folded 13 rfl) f_BT_49 ?_
      refine v_ri (y := (nI (2 * ((0, x) :: r : Cod).length))) hm ?_
      refine v_iconst G 1 (decAt dd_BT_folded 14 rfl) (by decide) ?_
      refine v_isub G (decAt dd_BT_folded 15 rfl) ?_
      refine v_ri (y := (nI (2 * r.length + 1))) (nI_sub (2 * r.length + 1) 1) ?_
      refine v_iload_n G (decAt dd_BT_folded 16 rfl) rfl ?_
      refine v_bipush G 8 (decAt dd_BT_folded 17 rfl) (by decide) ?_
      refine v_icmp_ne G 51 (decAt dd_BT_folded 18 rfl) (by decide) (fun c33 => absurd c33 (by decide)) (fun _ => ?_)
      refine v_aload_n G (decAt dd_BT_folded 19 rfl) rfl ?_
      refine v_geta G (decAt dd_BT_folded 20 rfl) f_BT_15 ?_
      refine v_aload_n G (decAt dd_BT_folded 21 rfl) rfl ?_
      refine v_geti G (decAt dd_BT_folded 22 rfl) f_BT_49 ?_
      refine v_ri (y := (nI (2 * ((0, x) :: r : Cod).length))) hm ?_
      refine v_iconst G 1 (decAt dd_BT_folded 23 rfl) (by decide) ?_
      refine v_isub G (decAt dd_BT_folded 24 rfl) ?_
      refine v_ri (y := (nI (2 * r.length + 1))) (nI_sub (2 * r.length + 1) 1) ?_
      refine v_iald G 13 (2 * r.length + 1) (decAt dd_BT_folded 25 rfl) (by decide) rfl rfl (by omega) ?_
      refine v_ri (y := x) t2 ?_
      refine v_ineg G (decAt dd_BT_folded 26 rfl) ?_
      refine v_goto G 64 (decAt dd_BT_folded 27 rfl) (by decide) ?_
      refine v_iast G 13 (2 * r.length + 1) (decAt dd_BT_folded 37 rfl) (by decide) rfl rfl (by omega) ?_
      refine v_iconst G 1 (decAt dd_BT_folded 38 rfl) (by decide) ?_
      exact v_zret G (decAt dd_BT_folded 39 rfl) rfl rfl ⟨_, rfl, ⟨by rw [va_up_ne _ _ (by omega)]; exact t1, va_up_self _ _ _, t3, t4.up (by omega)⟩, rfl, (up2_id hm).symm, rfl, rfl, rfl⟩
    · skip
      refine v_L (L' := [some (.ref (E.o 2)), some (.int (nI 8)), some (.int a), none, none]) (fun _ _ z => z) ?_
      refine v_iload_n G (decAt dd_BT_folded 0 rfl) rfl ?_
      refine v_bipush G 8 (decAt dd_BT_folded 1 rfl) (by decide) ?_
      refine v_icmp_eq G 12 (decAt dd_BT_folded 2 rfl) (by decide) (fun _ => ?_) (fun c3 => absurd c3 (by decide))
      refine v_aload_n G (decAt dd_BT_folded 6 rfl) rfl ?_
      refine v_iconst G 2 (decAt dd_BT_folded 7 rfl) (by decide) ?_
      refine v_callVis G (As := [.int (nI 2)]) (decAt dd_BT_folded 8 rfl) k_BT_75 (c_BT_isConstant l hE (τ := (N + 1, x) :: r) (b := 0) (by omega) hm hl hn13 hT) (by decide) rfl rfl rfl (Nat.le_of_ble_eq_true rfl) (by decide) rfl rfl (by decide) ?_
      refine v_ri (y := 0) rfl ?_
      refine v_if_eq G 67 (decAt dd_BT_folded 9 rfl) (by decide) (fun _ => ?_) (fun c17 => absurd c17 (by decide))
      refine v_iload_n G (decAt dd_BT_folded 40 rfl) rfl ?_
      refine v_bipush G 10 (decAt dd_BT_folded 41 rfl) (by decide) ?_
      refine v_icmp_eq G 79 (decAt dd_BT_folded 42 rfl) (by decide) (fun c70 => absurd c70 (by decide)) (fun _ => ?_)
      refine v_iload_n G (decAt dd_BT_folded 43 rfl) rfl ?_
      refine v_bipush G 11 (decAt dd_BT_folded 44 rfl) (by decide) ?_
      refine v_icmp_ne G 197 (decAt dd_BT_folded 45 rfl) (by decide) (fun _ => ?_) (fun c76 => absurd c76 (by decide))
      refine v_iload_n G (decAt dd_BT_folded 114 rfl) rfl ?_
      refine v_bipush G 14 (decAt dd_BT_folded 115 rfl) (by decide) ?_
      refine v_icmp_eq G 209 (decAt dd_BT_folded 116 rfl) (by decide) (fun c200 => absurd c200 (by decide)) (fun _ => ?_)
      refine v_iload_n G (decAt dd_BT_folded 117 rfl) rfl ?_
      refine v_bipush G 15 (decAt dd_BT_folded 118 rfl) (by decide) ?_
      refine v_icmp_ne G 279 (decAt dd_BT_folded 119 rfl) (by decide) (fun _ => ?_) (fun c206 => absurd c206 (by decide))
      refine v_iload_n G (decAt dd_BT_folded 160 rfl) rfl ?_
      refine v_bipush G 19 (decAt dd_BT_folded 161 rfl) (by decide) ?_
      refine v_icmp_ne G 365 (decAt dd_BT_folded 162 rfl) (by decide) (fun _ => ?_) (fun c282 => absurd c282 (by decide))
      refine v_iconst G 0 (decAt dd_BT_folded 210 rfl) (by decide) ?_
      exact v_zret G (decAt dd_BT_folded 211 rfl) rfl rfl ⟨A 13, rfl, hT, rfl, (up2_id hm).symm, (va_up_id A 13).symm, rfl, rfl⟩
  · skip
    rcases τ with _ | ⟨⟨_ | N, x⟩, r⟩
    · skip
      refine v_L (L' := [some (.ref (E.o 2)), some (.int (nI 9)), some (.int a), none, none]) (fun _ _ z => z) ?_
      refine v_iload_n G (decAt dd_BT_folded 0 rfl) rfl ?_
      refine v_bipush G 8 (decAt dd_BT_folded 1 rfl) (by decide) ?_
      refine v_icmp_eq G 12 (decAt dd_BT_folded 2 rfl) (by decide) (fun c3 => absurd c3 (by decide)) (fun _ => ?_)
      refine v_iload_n G (decAt dd_BT_folded 3 rfl) rfl ?_
      refine v_bipush G 9 (decAt dd_BT_folded 4 rfl) (by decide) ?_
      refine v_icmp_ne G 67 (decAt dd_BT_folded 5 rfl) (by decide) (fun c9 => absurd c9 (by decide)) (fun _ => ?_)
      refine v_aload_n G (decAt dd_BT_folded 6 rfl) rfl ?_
      refine v_iconst G 2 (decAt dd_BT_folded 7 rfl) (by decide) ?_
      refine v_callVis G (As := [.int (nI 2)]) (decAt dd_BT_folded 8 rfl) k_BT_75 (c_BT_isConstant l hE (τ := ([] : Cod)) (b := 0) (by omega) hm hl hn13 hT) (by decide) rfl rfl rfl (Nat.le_of_ble_eq_true rfl) (by decide) rfl rfl (by decide) ?_
      refine v_ri (y := 0) rfl ?_
      refine v_if_eq G 67 (decAt dd_BT_folded 9 rfl) (by decide) (fun _ => ?_) (fun c17 => absurd c17 (by decide))
      refine v_iload_n G (decAt dd_BT_folded 40 rfl) rfl ?_
      refine v_bipush G 10 (decAt dd_BT_folded 41 rfl) (by decide) ?_
      refine v_icmp_eq G 79 (decAt dd_BT_folded 42 rfl) (by decide) (fun c70 => absurd c70 (by decide)) (fun _ => ?_)
      refine v_iload_n G (decAt dd_BT_folded 43 rfl) rfl ?_
      refine v_bipush G 11 (decAt dd_BT_folded 44 rfl) (by decide) ?_
      refine v_icmp_ne G 197 (decAt dd_BT_folded 45 rfl) (by decide) (fun _ => ?_) (fun c76 => absurd c76 (by decide))
      refine v_iload_n G (decAt dd_BT_folded 114 rfl) rfl ?_
      refine v_bipush G 14 (decAt dd_BT_folded 115 rfl) (by decide) ?_
      refine v_icmp_eq G 209 (decAt dd_BT_folded 116 rfl) (by decide) (fun c200 => absurd c200 (by decide)) (fun _ => ?_)
      refine v_iload_n G (decAt dd_BT_folded 117 rfl) rfl ?_
      refine v_bipush G 15 (decAt dd_BT_folded 118 rfl) (by decide) ?_
      refine v_icmp_ne G 279 (decAt dd_BT_folded 119 rfl) (by decide) (fun _ => ?_) (fun c206 => absurd c206 (by decide))
      refine v_iload_n G (decAt dd_BT_folded 160 rfl) rfl ?_
      refine v_bipush G 19 (decAt dd_BT_folded 161 rfl) (by decide) ?_
      refine v_icmp_ne G 365 (decAt dd_BT_folded 162 rfl) (by decide) (fun _ => ?_) (fun c282 => absurd c282 (by decide))
      refine v_iconst G 0 (decAt dd_BT_folded 210 rfl) (by decide) ?_
      exact v_zret G (decAt dd_BT_folded 211 rfl) rfl rfl ⟨A 13, rfl, hT, rfl, (up2_id hm).symm, (va_up_id A 13).symm, rfl, rfl⟩
    · skip
      obtain ⟨t1, t2, t3, t4⟩ := id hT
      have hl2 : 2 * (r.length + 1) ≤ n 13 := hl
      refine v_L (L' := [some (.ref (E.o 2)), some (.int (nI 9)), some (.int a), none, none]) (fun _ _ z => z) ?_
      refine v_iload_n G (decAt dd_BT_folded 0 rfl) rfl ?_
      refine v_bipush G 8 (decAt dd_BT_folded 1 rfl) (by decide) ?_
      refine v_icmp_eq G 12 (decAt dd_BT_folded 2 rfl) (by decide) (fun c3 => absurd c3 (by decide)) (fun _ => ?_)
      refine v_iload_n G (decAt dd_BT_folded 3 rfl) rfl ?_
      refine v_bipush G 9 (decAt dd_BT_folded 4 rfl) (by decide) ?_
      refine v_icmp_ne G 67 (decAt dd_BT_folded 5 rfl) (by decide) (fun c9 => absurd c9 (by decide)) (fun _ => ?_)
      refine v_aload_n G (decAt dd_BT_folded 6 rfl) rfl ?_
      refine v_iconst G 2 (decAt dd_BT_folded 7 rfl) (by decide) ?_
      refine v_callVis G (As := [.int (nI 2)]) (decAt dd_BT_folded 8 rfl) k_BT_75 (c_BT_isConstant l hE (τ := (0, x) :: r) (b := 0) (by omega) hm hl hn13 hT) (by decide) rfl rfl rfl (Nat.le_of_ble_eq_true rfl) (by decide) rfl rfl (by decide) ?_
      refine v_ri (y := 1) rfl ?_
      refine v_if_eq G 67 (decAt dd_BT_folded 9 rfl) (by decide) (fun c17 => absurd c17 (by decide)) (fun _ => ?_)
      refine v_aload_n G (decAt dd_BT_folded 10 rfl) rfl ?_
      refine v_geta G (decAt dd_BT_folded 11 rfl) f_BT_15 ?_
      refine v_aload_n G (decAt dd_BT_folded 12 rfl) rfl ?_
      refine v_geti G (decAt dd_BT_folded 13 rfl) f_BT_49 ?_
      refine v_ri (y := (nI (2 * ((0, x) :: r : Cod).length))) hm ?_
      refine v_iconst G 1 (decAt dd_BT_folded 14 rfl) (by decide) ?_
      refine v_isub G (decAt dd_BT_folded 15 rfl) ?_
      refine v_ri (y := (nI (2 * r.length + 1))) (nI_sub (2 * r.length + 1) 1) ?_
      refine v_iload_n G (decAt dd_BT_folded 16 rfl) rfl ?_
      refine v_bipush G 8 (decAt dd_BT_folded 17 rfl) (by decide) ?_
      refine v_icmp_ne G 51 (decAt dd_BT_folded 18 rfl) (by decide) (fun _ => ?_) (fun c33 => absurd c33 (by decide))
      refine v_aload_n G (decAt dd_BT_folded 28 rfl) rfl ?_
      refine v_geta G (decAt dd_BT_folded 29 rfl) f_BT_15 ?_
      refine v_aload_n G (decAt dd_BT_folded 30 rfl) rfl ?_
      refine v_geti G (decAt dd_BT_folded 31 rfl) f_BT_49 ?_
      refine v_ri (y := (nI (2 * ((0, x) :: r : Cod).length))) hm ?_
      refine v_iconst G 1 (decAt dd_BT_folded 32 rfl) (by decide) ?_
      refine v_isub G (decAt dd_BT_folded 33 rfl) ?_
      refine v_ri (y := (nI (2 * r.length + 1))) (nI_sub (2 * r.length + 1) 1) ?_
      refine v_iald G 13 (2 * r.length + 1) (decAt dd_BT_folded 34 rfl) (by decide) rfl rfl (by omega) ?_
      refine v_ri (y := x) t2 ?_
      refine v_iconst G (-1) (decAt dd_BT_folded 35 rfl) (by decide) ?_
      refine v_ixor G (decAt dd_BT_folded 36 rfl) ?_
      refine v_iast G 13 (2 * r.length + 1) (decAt dd_BT_folded 37 rfl) (by decide) rfl rfl (by omega) ?_
      refine v_iconst G 1 (decAt dd_BT_folded 38 rfl) (by decide) ?_
      exact v_zret G (decAt dd_BT_folded 39 rfl) rfl rfl ⟨_, rfl, ⟨by rw [va_up_ne _ _ (by omega)]; exact t1, va_up_self _ _ _, t3, t4.up (by omega)⟩, rfl, (up2_id hm).symm, rfl, rfl, rfl⟩
    · skip
      refine v_L (L' := [some (.ref (E.o 2)), some (.int (nI 9)), some (.int a), none, none]) (fun _ _ z => z) ?_
      refine v_iload_n G (decAt dd_BT_folded 0 rfl) rfl ?_
      refine v_bipush G 8 (decAt dd_BT_folded 1 rfl) (by decide) ?_
      refine v_icmp_eq G 12 (decAt dd_BT_folded 2 rfl) (by decide) (fun c3 => absurd c3 (by decide)) (fun _ => ?_)
      refine v_iload_n G (decAt dd_BT_folded 3 rfl) rfl ?_
      refine v_bipush G 9 (decAt dd_BT_folded 4 rfl) (by decide) ?_
      refine v_icmp_ne G 67 (decAt dd_BT_folded 5 rfl) (by decide) (fun c9 => absurd c9 (by decide)) (fun _ => ?_)
      refine v_aload_n G (decAt dd_BT_folded 6 rfl) rfl ?_
      refine v_iconst G 2 (decAt dd_BT_folded 7 rfl) (by decide) ?_
      refine v_callVis G (As := [.int (nI 2)]) (decAt dd_BT_folded 8 rfl) k_BT_75 (c_BT_isConstant l hE (τ := (N + 1, x) :: r) (b := 0) (by omega) hm hl hn13 hT) (by decide) rfl rfl rfl (Nat.le_of_ble_eq_true rfl) (by decide) rfl rfl (by decide) ?_
      refine v_ri (y := 0) rfl ?_
      refine v_if_eq G 67 (decAt dd_BT_folded 9 rfl) (by decide) (fun _ => ?_) (fun c17 => absurd c17 (by decide))
      refine v_iload_n G (decAt dd_BT_folded 40 rfl) rfl ?_
      refine v_bipush G 10 (decAt dd_BT_folded 41 rfl) (by decide) ?_
      refine v_icmp_eq G 79 (decAt dd_BT_folded 42 rfl) (by decide) (fun c70 => absurd c70 (by decide)) (fun _ => ?_)
      refine v_iload_n G (decAt dd_BT_folded 43 rfl) rfl ?_
      refine v_bipush G 11 (decAt dd_BT_folded 44 rfl) (by decide) ?_
      refine v_icmp_ne G 197 (decAt dd_BT_folded 45 rfl) (by decide) (fun _ => ?_) (fun c76 => absurd c76 (by decide))
      refine v_iload_n G (decAt dd_BT_folded 114 rfl) rfl ?_
      refine v_bipush G 14 (decAt dd_BT_folded 115 rfl) (by decide) ?_
      refine v_icmp_eq G 209 (decAt dd_BT_folded 116 rfl) (by decide) (fun c200 => absurd c200 (by decide)) (fun _ => ?_)
      refine v_iload_n G (decAt dd_BT_folded 117 rfl) rfl ?_
      refine v_bipush G 15 (decAt dd_BT_folded 118 rfl) (by decide) ?_
      refine v_icmp_ne G 279 (decAt dd_BT_folded 119 rfl) (by decide) (fun _ => ?_) (fun c206 => absurd c206 (by decide))
      refine v_iload_n G (decAt dd_BT_folded 160 rfl) rfl ?_
      refine v_bipush G 19 (decAt dd_BT_folded 161 rfl) (by decide) ?_
      refine v_icmp_ne G 365 (decAt dd_BT_folded 162 rfl) (by decide) (fun _ => ?_) (fun c282 => absurd c282 (by decide))
      refine v_iconst G 0 (decAt dd_BT_folded 210 rfl) (by decide) ?_
      exact v_zret G (decAt dd_BT_folded 211 rfl) rfl rfl ⟨A 13, rfl, hT, rfl, (up2_id hm).symm, (va_up_id A 13).symm, rfl, rfl⟩
  · skip
    rcases τ with _ | ⟨⟨_ | N, y⟩, _ | ⟨⟨_ | N, x⟩, r⟩⟩
    · skip
      refine v_L (L' := [some (.ref (E.o 2)), some (.int (nI 10)), some (.int a), none, none]) (fun _ _ z => z) ?_
      refine v_iload_n G (decAt dd_BT_folded 0 rfl) rfl ?_
      refine v_bipush G 8 (decAt dd_BT_folded 1 rfl) (by decide) ?_
      refine v_icmp_eq G 12 (decAt dd_BT_folded 2 rfl) (by decide) (fun c3 => absurd c3 (by decide)) (fun _ => ?_)
      refine v_iload_n G (decAt dd_BT_folded 3 rfl) rfl ?_
      refine v_bipush G 9 (decAt dd_BT_folded 4 rfl) (by decide) ?_
      refine v_icmp_ne G 67 (decAt dd_BT_folded 5 rfl) (by decide) (fun _ => ?_) (fun c9 => absurd c9 (by decide))
      refine v_iload_n G (decAt dd_BT_folded 40 rfl) rfl ?_
      refine v_bipush G 10 (decAt dd_BT_folded 41 rfl) (by decide) ?_
      refine v_icmp_eq G 79 (decAt dd_BT_folded 42 rfl) (by decide) (fun _ => ?_) (fun c70 => absurd c70 (by decide))
      refine v_aload_n G (decAt dd_BT_folded 46 rfl) rfl ?_
      refine v_iconst G 2 (decAt dd_BT_folded 47 rfl) (by decide) ?_
      refine v_callVis G (As := [.int (nI 2)]) (decAt dd_BT_folded 48 rfl) k_BT_75 (c_BT_isConstant l hE (τ := ([] : Cod)) (b := 0) (by omega) hm hl hn13 hT) (by decide) rfl rfl rfl (Nat.le_of_ble_eq_true rfl) (by decide) rfl rfl (by decide) ?_
      refine v_ri (y := 0) rfl ?_
      refine v_if_eq G 197 (decAt dd_BT_folded 49 rfl) (by decide) (fun _ => ?_) (fun c84 => absurd c84 (by decide))
      refine v_iload_n G (decAt dd_BT_folded 114 rfl) rfl ?_
      refine v_bipush G 14 (decAt dd_BT_folded 115 rfl) (by decide) ?_
      refine v_icmp_eq G 209 (decAt dd_BT_folded 116 rfl) (by decide) (fun c200 => absurd c200 (by decide)) (fun _ => ?_)
      refine v_iload_n G (decAt dd_BT_folded 117 rfl) rfl ?_
      refine v_bipush G 15 (decAt dd_BT_folded 118 rfl) (by decide) ?_
      refine v_icmp_ne G 279 (decAt dd_BT_folded 119 rfl) (by decide) (fun _ => ?_) (fun c206 => absurd c206 (by decide))
      refine v_iload_n G (decAt dd_BT_folded 160 rfl) rfl ?_
      refine v_bipush G 19 (decAt dd_BT_folded 161 rfl) (by decide) ?_
      refine v_icmp_ne G 365 (decAt dd_BT_folded 162 rfl) (by decide) (fun _ => ?_) (fun c282 => absurd c282 (by decide))
      refine v_iconst G 0 (decAt dd_BT_folded 210 rfl) (by decide) ?_
      exact v_zret G (decAt dd_BT_folded 211 rfl) rfl rfl ⟨A 13, rfl, hT, rfl, (up2_id hm).symm, (va_up_id A 13).symm, rfl, rfl⟩
    · skip
      refine v_L (L' := [some (.ref (E.o 2)), some (.int (nI 10)), some (.int a), none, none]) (fun _ _ z => z) ?_
      refine v_iload_n G (decAt dd_BT_folded 0 rfl) rfl ?_
      refine v_bipush G 8 (decAt dd_BT_folded 1 rfl) (by decide) ?_
      refine v_icmp_eq G 12 (decAt dd_BT_folded 2 rfl) (by decide) (fun c3 => absurd c3 (by decide)) (fun _ => ?_)
      refine v_iload_n G (decAt dd_BT_folded 3 rfl) rfl ?_
      refine v_bipush G 9 (decAt dd_BT_folded 4 rfl) (by decide) ?_
      refine v_icmp_ne G 67 (decAt dd_BT_folded 5 rfl) (by decide) (fun _ => ?_) (fun c9 => absurd c9 (by decide))
      refine v_iload_n G (decAt dd_BT_folded 40 rfl) rfl ?_
      refine v_bipush G 10 (decAt dd_BT_folded 41 rfl) (by decide) ?_
      refine v_icmp_eq G 79 (decAt dd_BT_folded 42 rfl) (by decide) (fun _ => ?_) (fun c70 => absurd c70 (by decide))
      refine v_aload_n G (decAt dd_BT_folded 46 rfl) rfl ?_
      refine v_iconst G 2 (decAt dd_BT_folded 47 rfl) (by decide) ?_
      refine v_callVis G (As := [.int (nI 2)]) (decAt dd_BT_folded 48 rfl) k_BT_75 (c_BT_isConstant l hE (τ := [(0, y)]) (b := 0) (by omega) hm hl hn13 hT) (by decide) rfl rfl rfl (Nat.le_of_ble_eq_true rfl) (by decide) rfl rfl (by decide) ?_
      refine v_ri (y := 1) rfl ?_
      refine v_if_eq G 197 (decAt dd_BT_folded 49 rfl) (by decide) (fun c84 => absurd c84 (by decide)) (fun _ => ?_)
      refine v_aload_n G (decAt dd_BT_folded 50 rfl) rfl ?_
      refine v_iconst G 4 (decAt dd_BT_folded 51 rfl) (by decide) ?_
      refine v_callVis G (As := [.int (nI 4)]) (decAt dd_BT_folded 52 rfl) k_BT_75 (c_BT_isConstant l hE (τ := [(0, y)]) (b := 1) (by omega) hm hl hn13 hT) (by decide) rfl rfl rfl (Nat.le_of_ble_eq_true rfl) (by decide) rfl rfl (by decide) ?_
      refine v_ri (y := 0) rfl ?_
      refine v_if_eq G 197 (decAt dd_BT_folded 53 rfl) (by decide) (fun _ => ?_) (fun c92 => absurd c92 (by decide))
      refine v_iload_n G (decAt dd_BT_folded 114 rfl) rfl ?_
      refine v_bipush G 14 (decAt dd_BT_folded 115 rfl) (by decide) ?_
      refine v_icmp_eq G 209 (decAt dd_BT_folded 116 rfl) (by decide) (fun c200 => absurd c200 (by decide)) (fun _ => ?_)
      refine v_iload_n G (decAt dd_BT_folded 117 rfl) rfl ?_
      refine v_bipush G 15 (decAt dd_BT_folded 118 rfl) (by decide) ?_
      refine v_icmp_ne G 279 (decAt dd_BT_folded 119 rfl) (by decide) (fun _ => ?_) (fun c206 => absurd c206 (by decide))
      refine v_iload_n G (decAt dd_BT_folded 160 rfl) rfl ?_
      refine v_bipush G 19 (decAt dd_BT_folded 161 rfl) (by decide) ?_
      refine v_icmp_ne G 365 (decAt dd_BT_folded 162 rfl) (by decide) (fun _ => ?_) (fun c282 => absurd c282 (by decide))
      refine v_iconst G 0 (decAt dd_BT_folded 210 rfl) (by decide) ?_
      exact v_zret G (decAt dd_BT_folded 211 rfl) rfl rfl ⟨A 13, rfl, hT, rfl, (up2_id hm).symm, (va_up_id A 13).symm, rfl, rfl⟩
    · skip
      obtain ⟨u1, u2, u3, t1, t2, t3, t4⟩ := id hT
      have hl2 : 2 * (r.length + 1 + 1) ≤ n 13 := hl
      obtain ⟨j, hj, haj, hjc⟩ := inR_nI (b := 11) ha
      refine v_L (L' := [some (.ref (E.o 2)), some (.int (nI 10)), some (.int a), none, none]) (fun _ _ z => z) ?_
      refine v_iload_n G (decAt dd_BT_folded 0 rfl) rfl ?_
      refine v_bipush G 8 (decAt dd_BT_folded 1 rfl) (by decide) ?_
      refine v_icmp_eq G 12 (decAt dd_BT_folded 2 rfl) (by decide) (fun c3 => absurd c3 (by decide)) (fun _ => ?_)
      refine v_iload_n G (decAt dd_BT_folded 3 rfl) rfl ?_
      refine v_bipush G 9 (decAt dd_BT_folded 4 rfl) (by decide) ?_
      refine v_icmp_ne G 67 (decAt dd_BT_folded 5 rfl) (by decide) (fun _ => ?_) (fun c9 => absurd c9 (by decide))
      refine v_iload_n G (decAt dd_BT_folded 40 rfl) rfl ?_
      refine v_bipush G 10 (decAt dd_BT_folded 41 rfl) (by decide) ?_
      refine v_icmp_eq G 79 (decAt dd_BT_folded 42 rfl) (by decide) (fun _ => ?_) (fun c70 => absurd c70 (by decide))
      refine v_aload_n G (decAt dd_BT_folded 46 rfl) rfl ?_
      refine v_iconst G 2 (decAt dd_BT_folded 47 rfl) (by decide) ?_
      refine v_callVis G (As := [.int (nI 2)]) (decAt dd_BT_folded 48 rfl) k_BT_75 (c_BT_isConstant l hE (τ := (0, y) :: (0, x) :: r) (b := 0) (by omega) hm hl hn13 hT) (by decide) rfl rfl rfl (Nat.le_of_ble_eq_true rfl) (by decide) rfl rfl (by decide) ?_
      refine v_ri (y := 1) rfl ?_
      refine v_if_eq G 197 (decAt dd_BT_folded 49 rfl) (by decide) (fun c84 => absurd c84 (by decide)) (fun _ => ?_)
      refine v_aload_n G (decAt dd_BT_folded 50 rfl) rfl ?_
      refine v_iconst G 4 (decAt dd_BT_folded 51 rfl) (by decide) ?_
      refine v_callVis G (As := [.int (nI 4)]) (decAt dd_BT_folded 52 rfl) k_BT_75 (c_BT_isConstant l hE (τ := (0, y) :: (0, x) :: r) (b := 1) (by omega) hm hl hn13 hT) (by decide) rfl rfl rfl (Nat.le_of_ble_eq_true rfl) (by decide) rfl rfl (by decide) ?_
      refine v_ri (y := 1) rfl ?_
      refine v_if_eq G 197 (decAt dd_BT_folded 53 rfl) (by decide) (fun c92 => absurd c92 (by decide)) (fun _ => ?_)
      refine v_aload_n G (decAt dd_BT_folded 54 rfl) rfl ?_
      refine v_geta G (decAt dd_BT_folded 55 rfl) f_BT_15 ?_
      refine v_aload_n G (decAt dd_BT_folded 56 rfl) rfl ?_
      refine v_geti G (decAt dd_BT_folded 57 rfl) f_BT_49 ?_
      refine v_ri (y := (nI (2 * ((0, y) :: (0, x) :: r : Cod).length))) hm ?_
      refine v_iconst G 3 (decAt dd_BT_folded 58 rfl) (by decide) ?_
      refine v_isub G (decAt dd_BT_folded 59 rfl) ?_
      refine v_ri (y := (nI (2 * r.length + 1))) (nI_sub (2 * r.length + 1) 3) ?_
      refine v_iald G 13 (2 * r.length + 1) (decAt dd_BT_folded 60 rfl) (by decide) rfl rfl (by omega) ?_
      refine v_ri (y := x) t2 ?_
      refine v_istore_3 G (decAt dd_BT_folded 61 rfl) (by decide) rfl ?_
      refine v_aload_n G (decAt dd_BT_folded 62 rfl) rfl ?_
      refine v_geta G (decAt dd_BT_folded 63 rfl) f_BT_15 ?_
      refine v_aload_n G (decAt dd_BT_folded 64 rfl) rfl ?_
      refine v_geti G (decAt dd_BT_folded 65 rfl) f_BT_49 ?_
      refine v_ri (y := (nI (2 * ((0, y) :: (0, x) :: r : Cod).length))) hm ?_
      refine v_iconst G 1 (decAt dd_BT_folded 66 rfl) (by decide) ?_
      refine v_isub G (decAt dd_BT_folded 67 rfl) ?_
      refine v_ri (y := (nI (2 * (r.length + 1) + 1))) (nI_sub (2 * (r.length + 1) + 1) 1) ?_
      refine v_iald G 13 (2 * (r.length + 1) + 1) (decAt dd_BT_folded 68 rfl) (by decide) rfl rfl (by omega) ?_
      refine v_ri (y := y) u2 ?_
      refine v_istore_4 G (decAt dd_BT_folded 69 rfl) (by decide) rfl ?_
      refine v_iload_n G (decAt dd_BT_folded 70 rfl) rfl ?_
      refine v_bipush G 10 (decAt dd_BT_folded 71 rfl) (by decide) ?_
      refine v_icmp_ne G 143 (decAt dd_BT_folded 72 rfl) (by decide) (fun c123 => absurd c123 (by decide)) (fun _ => ?_)
      refine v_iload_n G (decAt dd_BT_folded 73 rfl) rfl ?_
      refine v_iconst G 3 (decAt dd_BT_folded 74 rfl) (by decide) ?_
      refine v_icmp_eq G 136 (decAt dd_BT_folded 75 rfl) (by decide) (fun c128 => ?_) (fun c128 => ?_)
      · skip
        refine v_iload G (decAt dd_BT_folded 79 rfl) rfl ?_
        refine v_if_ne G 143 (decAt dd_BT_folded 80 rfl) (by decide) (fun c138 => ?_) (fun c138 => ?_)
        · skip
          refine v_aload_n G (decAt dd_BT_folded 83 rfl) rfl ?_
          refine v_dup G (decAt dd_BT_folded 84 rfl) rfl ?_
          refine v_geti G (decAt dd_BT_folded 85 rfl) f_BT_49 ?_
          refine v_ri (y := (nI (2 * ((0, y) :: (0, x) :: r : Cod).length))) hm ?_
          refine v_iconst G 2 (decAt dd_BT_folded 86 rfl) (by decide) ?_
          refine v_isub G (decAt dd_BT_folded 87 rfl) ?_
          refine v_ri (y := (nI (2 * (r.length + 1)))) (nI_sub (2 * (r.length + 1)) 2) ?_
          refine v_puti G (decAt dd_BT_folded 88 rfl) f_BT_49 rfl rfl rfl ?_
          refine v_aload_n G (decAt dd_BT_folded 89 rfl) rfl ?_
          refine v_geta G (decAt dd_BT_folded 90 rfl) f_BT_15 ?_
          refine v_aload_n G (decAt dd_BT_folded 91 rfl) rfl ?_
          refine v_geti G (decAt dd_BT_folded 92 rfl) f_BT_49 ?_
          refine v_ri (y := (nI (2 * (r.length + 1)))) rfl ?_
          refine v_iconst G 1 (decAt dd_BT_folded 93 rfl) (by decide) ?_
          refine v_isub G (decAt dd_BT_folded 94 rfl) ?_
          refine v_ri (y := (nI (2 * r.length + 1))) (nI_sub (2 * r.length + 1) 1) ?_
          refine v_iload_n G (decAt dd_BT_folded 95 rfl) rfl ?_
          refine v_bipush G 10 (decAt dd_BT_folded 96 rfl) (by decide) ?_
          refine v_icmp_ne G 179 (decAt dd_BT_folded 97 rfl) (by decide) (fun c166 => absurd c166 (by decide)) (fun _ => ?_)
          refine v_iload_n G (decAt dd_BT_folded 98 rfl) rfl ?_
          refine v_iload_n G (decAt dd_BT_folded 99 rfl) rfl ?_
          refine v_iload G (decAt dd_BT_folded 100 rfl) rfl ?_
          have hz : ¬ ((a = 3 ∨ a = 4) ∧ y = 0) := fun z => by first | exact c138 z.2 | exact z.1.elim c128 c133
          refine v_S (S' := [.int y, .int x, .int (nI j), .int (nI (2 * r.length + 1)), .ref (ρ 13)]) (by rw [haj]) ?_
          refine p_callNi G (XB_Sy G) (As := [.int (nI j), .int x, .int y]) (decAt dd_BT_folded 101 rfl) k_BT_79 (c_RC_operated l hE (k := j) (by omega) (fun hk hy => hz ⟨hk.imp (fun e => by rw [haj, e]; rfl) (fun e => by rw [haj, e]; rfl), hy⟩)) rfl rfl (Nat.le_of_ble_eq_true rfl) (by decide) rfl rfl (by decide) ?_
          refine v_goto G 194 (decAt dd_BT_folded 102 rfl) (by decide) ?_
          refine v_iast G 13 (2 * r.length + 1) (decAt dd_BT_folded 111 rfl) (by decide) rfl rfl (by omega) ?_
          refine v_iconst G 1 (decAt dd_BT_folded 112 rfl) (by decide) ?_
          have hff : fold1 ((0, y) :: (0, x) :: r) 7 a = some ((0, opr j x y) :: r) := by
            show (if _ then _ else _) = _
            rw [if_neg hz, hjc]
          exact v_zret G (decAt dd_BT_folded 113 rfl) rfl rfl ⟨_, by rw [hff]; rfl, by rw [hff]; exact ⟨by rw [va_up_ne _ _ (by omega)]; exact t1, va_up_self _ _ _, t3, t4.up (by omega)⟩, rfl, by rw [hff]; rfl, rfl, rfl, rfl⟩
        · skip
          refine v_iconst G 0 (decAt dd_BT_folded 81 rfl) (by decide) ?_
          have hz : (a = 3 ∨ a = 4) ∧ y = 0 := ⟨by first | exact Or.inl c128 | exact Or.inr (Classical.not_not.mp c133) | exact Or.inr c133, by first | exact c138 | exact Classical.not_not.mp c138⟩
          have hff : fold1 ((0, y) :: (0, x) :: r) 7 a = none := if_pos hz
          exact v_zret G (decAt dd_BT_folded 82 rfl) rfl rfl ⟨A 13, by rw [hff]; rfl, by rw [hff]; exact hT, rfl, by rw [hff]; exact (up2_id hm).symm, (va_up_id A 13).symm, rfl, rfl⟩
      · skip
        refine v_iload_n G (decAt dd_BT_folded 76 rfl) rfl ?_
        refine v_iconst G 4 (decAt dd_BT_folded 77 rfl) (by decide) ?_
        refine v_icmp_ne G 143 (decAt dd_BT_folded 78 rfl) (by decide) (fun c133 => ?_) (fun c133 => ?_)
        · skip
          refine v_aload_n G (decAt dd_BT_folded 83 rfl) rfl ?_
          refine v_dup G (decAt dd_BT_folded 84 rfl) rfl ?_
          refine v_geti G (decAt dd_BT_folded 85 rfl) f_BT_49 ?_
          refine v_ri (y := (nI (2 * ((0, y) :: (0, x) :: r : Cod).length))) hm ?_
          refine v_iconst G 2 (decAt dd_BT_folded 86 rfl) (by decide) ?_
          refine v_isub G (decAt dd_BT_folded 87 rfl) ?_
          refine v_ri (y := (nI (2 * (r.length + 1)))) (nI_sub (2 * (r.length + 1)) 2) ?_
          refine v_puti G (decAt dd_BT_folded 88 rfl) f_BT_49 rfl rfl rfl ?_
          refine v_aload_n G (decAt dd_BT_folded 89 rfl) rfl ?_
          refine v_geta G (decAt dd_BT_folded 90 rfl) f_BT_15 ?_
          refine v_aload_n G (decAt dd_BT_folded 91 rfl) rfl ?_
          refine v_geti G (decAt dd_BT_folded 92 rfl) f_BT_49 ?_
          refine v_ri (y := (nI (2 * (r.length + 1)))) rfl ?_
          refine v_iconst G 1 (decAt dd_BT_folded 93 rfl) (by decide) ?_
          refine v_isub G (decAt dd_BT_folded 94 rfl) ?_
          refine v_ri (y := (nI (2 * r.length + 1))) (nI_sub (2 * r.length + 1) 1) ?_
          refine v_iload_n G (decAt dd_BT_folded 95 rfl) rfl ?_
          refine v_bipush G 10 (decAt dd_BT_folded 96 rfl) (by decide) ?_
          refine v_icmp_ne G 179 (decAt dd_BT_folded 97 rfl) (by decide) (fun c166 => absurd c166 (by decide)) (fun _ => ?_)
          refine v_iload_n G (decAt dd_BT_folded 98 rfl) rfl ?_
          refine v_iload_n G (decAt dd_BT_folded 99 rfl) rfl ?_
          refine v_iload G (decAt dd_BT_folded 100 rfl) rfl ?_
          have hz : ¬ ((a = 3 ∨ a = 4) ∧ y = 0) := fun z => by first | exact c138 z.2 | exact z.1.elim c128 c133
          refine v_S (S' := [.int y, .int x, .int (nI j), .int (nI (2 * r.length + 1)), .ref (ρ 13)]) (by rw [haj]) ?_
          refine p_callNi G (XB_Sy G) (As := [.int (nI j), .int x, .int y]) (decAt dd_BT_folded 101 rfl) k_BT_79 (c_RC_operated l hE (k := j) (by omega) (fun hk hy => hz ⟨hk.imp (fun e => by rw [haj, e]; rfl) (fun e => by rw [haj, e]; rfl), hy⟩)) rfl rfl (Nat.le_of_ble_eq_true rfl) (by decide) rfl rfl (by decide) ?_
          refine v_goto G 194 (decAt dd_BT_folded 102 rfl) (by decide) ?_
          refine v_iast G 13 (2 * r.length + 1) (decAt dd_BT_folded 111 rfl) (by decide) rfl rfl (by omega) ?_
          refine v_iconst G 1 (decAt dd_BT_folded 112 rfl) (by decide) ?_
          have hff : fold1 ((0, y) :: (0, x) :: r) 7 a = some ((0, opr j x y) :: r) := by
            show (if _ then _ else _) = _
            rw [if_neg hz, hjc]
          exact v_zret G (decAt dd_BT_folded 113 rfl) rfl rfl ⟨_, by rw [hff]; rfl, by rw [hff]; exact ⟨by rw [va_up_ne _ _ (by omega)]; exact t1, va_up_self _ _ _, t3, t4.up (by omega)⟩, rfl, by rw [hff]; rfl, rfl, rfl, rfl⟩
        · skip
          refine v_iload G (decAt dd_BT_folded 79 rfl) rfl ?_
          refine v_if_ne G 143 (decAt dd_BT_folded 80 rfl) (by decide) (fun c138 => ?_) (fun c138 => ?_)
          · skip
            refine v_aload_n G (decAt dd_BT_folded 83 rfl) rfl ?_
            refine v_dup G (decAt dd_BT_folded 84 rfl) rfl ?_
            refine v_geti G (decAt dd_BT_folded 85 rfl) f_BT_49 ?_
            refine v_ri (y := (nI (2 * ((0, y) :: (0, x) :: r : Cod).length))) hm ?_
            refine v_iconst G 2 (decAt dd_BT_folded 86 rfl) (by decide) ?_
            refine v_isub G (decAt dd_BT_folded 87 rfl) ?_
            refine v_ri (y := (nI (2 * (r.length + 1)))) (nI_sub (2 * (r.length + 1)) 2) ?_
            refine v_puti G (decAt dd_BT_folded 88 rfl) f_BT_49 rfl rfl rfl ?_
            refine v_aload_n G (decAt dd_BT_folded 89 rfl) rfl ?_
            refine v_geta G (decAt dd_BT_folded 90 rfl) f_BT_15 ?_
            refine v_aload_n G (decAt dd_BT_folded 91 rfl) rfl ?_
            refine v_geti G (decAt dd_BT_folded 92 rfl) f_BT_49 ?_
            refine v_ri (y := (nI (2 * (r.length + 1)))) rfl ?_
            refine v_iconst G 1 (decAt dd_BT_folded 93 rfl) (by decide) ?_
            refine v_isub G (decAt dd_BT_folded 94 rfl) ?_
            refine v_ri (y := (nI (2 * r.length + 1))) (nI_sub (2 * r.length + 1) 1) ?_
            refine v_iload_n G (decAt dd_BT_folded 95 rfl) rfl ?_
            refine v_bipush G 10 (decAt dd_BT_folded 96 rfl) (by decide) ?_
            refine v_icmp_ne G 179 (decAt dd_BT_folded 97 rfl) (by decide) (fun c166 => absurd c166 (by decide)) (fun _ => ?_)
            refine v_iload_n G (decAt dd_BT_folded 98 rfl) rfl ?_
            refine v_iload_n G (decAt dd_BT_folded 99 rfl) rfl ?_
            refine v_iload G (decAt dd_BT_folded 100 rfl) rfl ?_
            have hz : ¬ ((a = 3 ∨ a = 4) ∧ y = 0) := fun z => by first | exact c138 z.2 | exact z.1.elim c128 c133
            refine v_S (S' := [.int y, .int x, .int (nI j), .int (nI (2 * r.length + 1)), .ref (ρ 13)]) (by rw [haj]) ?_
            refine p_callNi G (XB_Sy G) (As := [.int (nI j), .int x, .int y]) (decAt dd_BT_folded 101 rfl) k_BT_79 (c_RC_operated l hE (k := j) (by omega) (fun hk hy => hz ⟨hk.imp (fun e => by rw [haj, e]; rfl) (fun e => by rw [haj, e]; rfl), hy⟩)) rfl rfl (Nat.le_of_ble_eq_true rfl) (by decide) rfl rfl (by decide) ?_
            refine v_goto G 194 (decAt dd_BT_folded 102 rfl) (by decide) ?_
            refine v_iast G 13 (2 * r.length + 1) (decAt dd_BT_folded 111 rfl) (by decide) rfl rfl (by omega) ?_
            refine v_iconst G 1 (decAt dd_BT_folded 112 rfl) (by decide) ?_
            have hff : fold1 ((0, y) :: (0, x) :: r) 7 a = some ((0, opr j x y) :: r) := by
              show (if _ then _ else _) = _
              rw [if_neg hz, hjc]
            exact v_zret G (decAt dd_BT_folded 113 rfl) rfl rfl ⟨_, by rw [hff]; rfl, by rw [hff]; exact ⟨by rw [va_up_ne _ _ (by omega)]; exact t1, va_up_self _ _ _, t3, t4.up (by omega)⟩, rfl, by rw [hff]; rfl, rfl, rfl, rfl⟩
          · skip
            refine v_iconst G 0 (decAt dd_BT_folded 81 rfl) (by decide) ?_
            have hz : (a = 3 ∨ a = 4) ∧ y = 0 := ⟨by first | exact Or.inl c128 | exact Or.inr (Classical.not_not.mp c133) | exact Or.inr c133, by first | exact c138 | exact Classical.not_not.mp c138⟩
            have hff : fold1 ((0, y) :: (0, x) :: r) 7 a = none := if_pos hz
            exact v_zret G (decAt dd_BT_folded 82 rfl) rfl rfl ⟨A 13, by rw [hff]; rfl, by rw [hff]; exact hT, rfl, by rw [hff]; exact (up2_id hm).symm, (va_up_id A 13).symm, rfl, rfl⟩
    · skip
      refine v_L (L' := [some (.ref (E.o 2)), some (.int (nI 10)), some (.int a), none, none]) (fun _ _ z => z) ?_
      refine v_iload_n G (decAt dd_BT_folded 0 rfl) rfl ?_
      refine v_bipush G 8 (decAt dd_BT_folded 1 rfl) (by decide) ?_
      refine v_icmp_eq G 12 (decAt dd_BT_folded 2 rfl) (by decide) (fun c3 => absurd c3 (by decide)) (fun _ => ?_)
      refine v_iload_n G (decAt dd_BT_folded 3 rfl) rfl ?_
      refine v_bipush G 9 (decAt dd_BT_folded 4 rfl) (by decide) ?_
      refine v_icmp_ne G 67 (decAt dd_BT_folded 5 rfl) (by decide) (fun _ => ?_) (fun c9 => absurd c9 (by decide))
      refine v_iload_n G (decAt dd_BT_folded 40 rfl) rfl ?_
      refine v_bipush G 10 (decAt dd_BT_folded 41 rfl) (by decide) ?_
      refine v_icmp_eq G 79 (decAt dd_BT_folded 42 rfl) (by decide) (fun _ => ?_) (fun c70 => absurd c70 (by decide))
      refine v_aload_n G (decAt dd_BT_folded 46 rfl) rfl ?_
      refine v_iconst G 2 (decAt dd_BT_folded 47 rfl) (by decide) ?_
      refine v_callVis G (As := [.int (nI 2)]) (decAt dd_BT_folded 48 rfl) k_BT_75 (c_BT_isConstant l hE (τ := (0, y) :: (N + 1, x) :: r) (b := 0) (by omega) hm hl hn13 hT) (by decide) rfl rfl rfl (Nat.le_of_ble_eq_true rfl) (by decide) rfl rfl (by decide) ?_
      refine v_ri (y := 1) rfl ?_
      refine v_if_eq G 197 (decAt dd_BT_folded 49 rfl) (by decide) (fun c84 => absurd c84 (by decide)) (fun _ => ?_)
      refine v_aload_n G (decAt dd_BT_folded 50 rfl) rfl ?_
      refine v_iconst G 4 (decAt dd_BT_folded 51 rfl) (by decide) ?_
      refine v_callVis G (As := [.int (nI 4)]) (decAt dd_BT_folded 52 rfl) k_BT_75 (c_BT_isConstant l hE (τ := (0, y) :: (N + 1, x) :: r) (b := 1) (by omega) hm hl hn13 hT) (by decide) rfl rfl rfl (Nat.le_of_ble_eq_true rfl) (by decide) rfl rfl (by decide) ?_
      refine v_ri (y := 0) rfl ?_
      refine v_if_eq G 197 (decAt dd_BT_folded 53 rfl) (by decide) (fun _ => ?_) (fun c92 => absurd c92 (by decide))
      refine v_iload_n G (decAt dd_BT_folded 114 rfl) rfl ?_
      refine v_bipush G 14 (decAt dd_BT_folded 115 rfl) (by decide) ?_
      refine v_icmp_eq G 209 (decAt dd_BT_folded 116 rfl) (by decide) (fun c200 => absurd c200 (by decide)) (fun _ => ?_)
      refine v_iload_n G (decAt dd_BT_folded 117 rfl) rfl ?_
      refine v_bipush G 15 (decAt dd_BT_folded 118 rfl) (by decide) ?_
      refine v_icmp_ne G 279 (decAt dd_BT_folded 119 rfl) (by decide) (fun _ => ?_) (fun c206 => absurd c206 (by decide))
      refine v_iload_n G (decAt dd_BT_folded 160 rfl) rfl ?_
      refine v_bipush G 19 (decAt dd_BT_folded 161 rfl) (by decide) ?_
      refine v_icmp_ne G 365 (decAt dd_BT_folded 162 rfl) (by decide) (fun _ => ?_) (fun c282 => absurd c282 (by decide))
      refine v_iconst G 0 (decAt dd_BT_folded 210 rfl) (by decide) ?_
      exact v_zret G (decAt dd_BT_folded 211 rfl) rfl rfl ⟨A 13, rfl, hT, rfl, (up2_id hm).symm, (va_up_id A 13).symm, rfl, rfl⟩
    · skip
      refine v_L (L' := [some (.ref (E.o 2)), some (.int (nI 10)), some (.int a), none, none]) (fun _ _ z => z) ?_
      refine v_iload_n G (decAt dd_BT_folded 0 rfl) rfl ?_
      refine v_bipush G 8 (decAt dd_BT_folded 1 rfl) (by decide) ?_
      refine v_icmp_eq G 12 (decAt dd_BT_folded 2 rfl) (by decide) (fun c3 => absurd c3 (by decide)) (fun _ => ?_)
      refine v_iload_n G (decAt dd_BT_folded 3 rfl) rfl ?_
      refine v_bipush G 9 (decAt dd_BT_folded 4 rfl) (by decide) ?_
      refine v_icmp_ne G 67 (decAt dd_BT_folded 5 rfl) (by decide) (fun _ => ?_) (fun c9 => absurd c9 (by decide))
      refine v_iload_n G (decAt dd_BT_folded 40 rfl) rfl ?_
      refine v_bipush G 10 (decAt dd_BT_folded 41 rfl) (by decide) ?_
      refine v_icmp_eq G 79 (decAt dd_BT_folded 42 rfl) (by decide) (fun _ => ?_) (fun c70 => absurd c70 (by decide))
      refine v_aload_n G (decAt dd_BT_folded 46 rfl) rfl ?_
      refine v_iconst G 2 (decAt dd_BT_folded 47 rfl) (by decide) ?_
      refine v_callVis G (As := [.int (nI 2)]) (decAt dd_BT_folded 48 rfl) k_BT_75 (c_BT_isConstant l hE (τ := [(N + 1, y)]) (b := 0) (by omega) hm hl hn13 hT) (by decide) rfl rfl rfl (Nat.le_of_ble_eq_true rfl) (by decide) rfl rfl (by decide) ?_
      refine v_ri (y := 0) rfl ?_
      refine v_if_eq G 197 (decAt dd_BT_folded 49 rfl) (by decide) (fun _ => ?_) (fun c84 => absurd c84 (by decide))
      refine v_iload_n G (decAt dd_BT_folded 114 rfl) rfl ?_
      refine v_bipush G 14 (decAt dd_BT_folded 115 rfl) (by decide) ?_
      refine v_icmp_eq G 209 (decAt dd_BT_folded 116 rfl) (by decide) (fun c200 => absurd c200 (by decide)) (fun _ => ?_)
      refine v_iload_n G (decAt dd_BT_folded 117 rfl) rfl ?_
      refine v_bipush G 15 (decAt dd_BT_folded 118 rfl) (by decide) ?_
      refine v_icmp_ne G 279 (decAt dd_BT_folded 119 rfl) (by decide) (fun _ => ?_) (fun c206 => absurd c206 (by decide))
      refine v_iload_n G (decAt dd_BT_folded 160 rfl) rfl ?_
      refine v_bipush G 19 (decAt dd_BT_folded 161 rfl) (by decide) ?_
      refine v_icmp_ne G 365 (decAt dd_BT_folded 162 rfl) (by decide) (fun _ => ?_) (fun c282 => absurd c282 (by decide))
      refine v_iconst G 0 (decAt dd_BT_folded 210 rfl) (by decide) ?_
      exact v_zret G (decAt dd_BT_folded 211 rfl) rfl rfl ⟨A 13, rfl, hT, rfl, (up2_id hm).symm, (va_up_id A 13).symm, rfl, rfl⟩
    · skip
      refine v_L (L' := [some (.ref (E.o 2)), some (.int (nI 10)), some (.int a), none, none]) (fun _ _ z => z) ?_
      refine v_iload_n G (decAt dd_BT_folded 0 rfl) rfl ?_
      refine v_bipush G 8 (decAt dd_BT_folded 1 rfl) (by decide) ?_
      refine v_icmp_eq G 12 (decAt dd_BT_folded 2 rfl) (by decide) (fun c3 => absurd c3 (by decide)) (fun _ => ?_)
      refine v_iload_n G (decAt dd_BT_folded 3 rfl) rfl ?_
      refine v_bipush G 9 (decAt dd_BT_folded 4 rfl) (by decide) ?_
      refine v_icmp_ne G 67 (decAt dd_BT_folded 5 rfl) (by decide) (fun _ => ?_) (fun c9 => absurd c9 (by decide))
      refine v_iload_n G (decAt dd_BT_folded 40 rfl) rfl ?_
      refine v_bipush G 10 (decAt dd_BT_folded 41 rfl) (by decide) ?_
      refine v_icmp_eq G 79 (decAt dd_BT_folded 42 rfl) (by decide) (fun _ => ?_) (fun c70 => absurd c70 (by decide))
      refine v_aload_n G (decAt dd_BT_folded 46 rfl) rfl ?_
      refine v_iconst G 2 (decAt dd_BT_folded 47 rfl) (by decide) ?_
      refine v_callVis G (As := [.int (nI 2)]) (decAt dd_BT_folded 48 rfl) k_BT_75 (c_BT_isConstant l hE (τ := _) (b := 0) (by omega) hm hl hn13 hT) (by decide) rfl rfl rfl (Nat.le_of_ble_eq_true rfl) (by decide) rfl rfl (by decide) ?_
      refine v_ri (y := 0) rfl ?_
      refine v_if_eq G 197 (decAt dd_BT_folded 49 rfl) (by decide) (fun _ => ?_) (fun c84 => absurd c84 (by decide))
      refine v_iload_n G (decAt dd_BT_folded 114 rfl) rfl ?_
      refine v_bipush G 14 (decAt dd_BT_folded 115 rfl) (by decide) ?_
      refine v_icmp_eq G 209 (decAt dd_BT_folded 116 rfl) (by decide) (fun c200 => absurd c200 (by decide)) (fun _ => ?_)
      refine v_iload_n G (decAt dd_BT_folded 117 rfl) rfl ?_
      refine v_bipush G 15 (decAt dd_BT_folded 118 rfl) (by decide) ?_
      refine v_icmp_ne G 279 (decAt dd_BT_folded 119 rfl) (by decide) (fun _ => ?_) (fun c206 => absurd c206 (by decide))
      refine v_iload_n G (decAt dd_BT_folded 160 rfl) rfl ?_
      refine v_bipush G 19 (decAt dd_BT_folded 161 rfl) (by decide) ?_
      refine v_icmp_ne G 365 (decAt dd_BT_folded 162 rfl) (by decide) (fun _ => ?_) (fun c282 => absurd c282 (by decide))
      refine v_iconst G 0 (decAt dd_BT_folded 210 rfl) (by decide) ?_
      exact v_zret G (decAt dd_BT_folded 211 rfl) rfl rfl ⟨A 13, rfl, hT, rfl, (up2_id hm).symm, (va_up_id A 13).symm, rfl, rfl⟩
    · skip
      refine v_L (L' := [some (.ref (E.o 2)), some (.int (nI 10)), some (.int a), none, none]) (fun _ _ z => z) ?_
      refine v_iload_n G (decAt dd_BT_folded 0 rfl) rfl ?_
      refine v_bipush G 8 (decAt dd_BT_folded 1 rfl) (by decide) ?_
      refine v_icmp_eq G 12 (decAt dd_BT_folded 2 rfl) (by decide) (fun c3 => absurd c3 (by decide)) (fun _ => ?_)
      refine v_iload_n G (decAt dd_BT_folded 3 rfl) rfl ?_
      refine v_bipush G 9 (decAt dd_BT_folded 4 rfl) (by decide) ?_
      refine v_icmp_ne G 67 (decAt dd_BT_folded 5 rfl) (by decide) (fun _ => ?_) (fun c9 => absurd c9 (by decide))
      refine v_iload_n G (decAt dd_BT_folded 40 rfl) rfl ?_
      refine v_bipush G 10 (decAt dd_BT_folded 41 rfl) (by decide) ?_
      refine v_icmp_eq G 79 (decAt dd_BT_folded 42 rfl) (by decide) (fun _ => ?_) (fun c70 => absurd c70 (by decide))
      refine v_aload_n G (decAt dd_BT_folded 46 rfl) rfl ?_
      refine v_iconst G 2 (decAt dd_BT_folded 47 rfl) (by decide) ?_
      refine v_callVis G (As := [.int (nI 2)]) (decAt dd_BT_folded 48 rfl) k_BT_75 (c_BT_isConstant l hE (τ := _) (b := 0) (by omega) hm hl hn13 hT) (by decide) rfl rfl rfl (Nat.le_of_ble_eq_true rfl) (by decide) rfl rfl (by decide) ?_
      refine v_ri (y := 0) rfl ?_
      refine v_if_eq G 197 (decAt dd_BT_folded 49 rfl) (by decide) (fun _ => ?_) (fun c84 => absurd c84 (by decide))
      refine v_iload_n G (decAt dd_BT_folded 114 rfl) rfl ?_
      refine v_bipush G 14 (decAt dd_BT_folded 115 rfl) (by decide) ?_
      refine v_icmp_eq G 209 (decAt dd_BT_folded 116 rfl) (by decide) (fun c200 => absurd c200 (by decide)) (fun _ => ?_)
      refine v_iload_n G (decAt dd_BT_folded 117 rfl) rfl ?_
      refine v_bipush G 15 (decAt dd_BT_folded 118 rfl) (by decide) ?_
      refine v_icmp_ne G 279 (decAt dd_BT_folded 119 rfl) (by decide) (fun _ => ?_) (fun c206 => absurd c206 (by decide))
      refine v_iload_n G (decAt dd_BT_folded 160 rfl) rfl ?_
      refine v_bipush G 19 (decAt dd_BT_folded 161 rfl) (by decide) ?_
      refine v_icmp_ne G 365 (decAt dd_BT_folded 162 rfl) (by decide) (fun _ => ?_) (fun c282 => absurd c282 (by decide))
      refine v_iconst G 0 (decAt dd_BT_folded 210 rfl) (by decide) ?_
      exact v_zret G (decAt dd_BT_folded 211 rfl) rfl rfl ⟨A 13, rfl, hT, rfl, (up2_id hm).symm, (va_up_id A 13).symm, rfl, rfl⟩
  · skip
    rcases τ with _ | ⟨⟨_ | N, y⟩, _ | ⟨⟨_ | N, x⟩, r⟩⟩
    · skip
      refine v_L (L' := [some (.ref (E.o 2)), some (.int (nI 11)), some (.int a), none, none]) (fun _ _ z => z) ?_
      refine v_iload_n G (decAt dd_BT_folded 0 rfl) rfl ?_
      refine v_bipush G 8 (decAt dd_BT_folded 1 rfl) (by decide) ?_
      refine v_icmp_eq G 12 (decAt dd_BT_folded 2 rfl) (by decide) (fun c3 => absurd c3 (by decide)) (fun _ => ?_)
      refine v_iload_n G (decAt dd_BT_folded 3 rfl) rfl ?_
      refine v_bipush G 9 (decAt dd_BT_folded 4 rfl) (by decide) ?_
      refine v_icmp_ne G 67 (decAt dd_BT_folded 5 rfl) (by decide) (fun _ => ?_) (fun c9 => absurd c9 (by decide))
      refine v_iload_n G (decAt dd_BT_folded 40 rfl) rfl ?_
      refine v_bipush G 10 (decAt dd_BT_folded 41 rfl) (by decide) ?_
      refine v_icmp_eq G 79 (decAt dd_BT_folded 42 rfl) (by decide) (fun c70 => absurd c70 (by decide)) (fun _ => ?_)
      refine v_iload_n G (decAt dd_BT_folded 43 rfl) rfl ?_
      refine v_bipush G 11 (decAt dd_BT_folded 44 rfl) (by decide) ?_
      refine v_icmp_ne G 197 (decAt dd_BT_folded 45 rfl) (by decide) (fun c76 => absurd c76 (by decide)) (fun _ => ?_)
      refine v_aload_n G (decAt dd_BT_folded 46 rfl) rfl ?_
      refine v_iconst G 2 (decAt dd_BT_folded 47 rfl) (by decide) ?_
      refine v_callVis G (As := [.int (nI 2)]) (decAt dd_BT_folded 48 rfl) k_BT_75 (c_BT_isConstant l hE (τ := ([] : Cod)) (b := 0) (by omega) hm hl hn13 hT) (by decide) rfl rfl rfl (Nat.le_of_ble_eq_true rfl) (by decide) rfl rfl (by decide) ?_
      refine v_ri (y := 0) rfl ?_
      refine v_if_eq G 197 (decAt dd_BT_folded 49 rfl) (by decide) (fun _ => ?_) (fun c84 => absurd c84 (by decide))
      refine v_iload_n G (decAt dd_BT_folded 114 rfl) rfl ?_
      refine v_bipush G 14 (decAt dd_BT_folded 115 rfl) (by decide) ?_
      refine v_icmp_eq G 209 (decAt dd_BT_folded 116 rfl) (by decide) (fun c200 => absurd c200 (by decide)) (fun _ => ?_)
      refine v_iload_n G (decAt dd_BT_folded 117 rfl) rfl ?_
      refine v_bipush G 15 (decAt dd_BT_folded 118 rfl) (by decide) ?_
      refine v_icmp_ne G 279 (decAt dd_BT_folded 119 rfl) (by decide) (fun _ => ?_) (fun c206 => absurd c206 (by decide))
      refine v_iload_n G (decAt dd_BT_folded 160 rfl) rfl ?_
      refine v_bipush G 19 (decAt dd_BT_folded 161 rfl) (by decide) ?_
      refine v_icmp_ne G 365 (decAt dd_BT_folded 162 rfl) (by decide) (fun _ => ?_) (fun c282 => absurd c282 (by decide))
      refine v_iconst G 0 (decAt dd_BT_folded 210 rfl) (by decide) ?_
      exact v_zret G (decAt dd_BT_folded 211 rfl) rfl rfl ⟨A 13, rfl, hT, rfl, (up2_id hm).symm, (va_up_id A 13).symm, rfl, rfl⟩
    · skip
      refine v_L (L' := [some (.ref (E.o 2)), some (.int (nI 11)), some (.int a), none, none]) (fun _ _ z => z) ?_
      refine v_iload_n G (decAt dd_BT_folded 0 rfl) rfl ?_
      refine v_bipush G 8 (decAt dd_BT_folded 1 rfl) (by decide) ?_
      refine v_icmp_eq G 12 (decAt dd_BT_folded 2 rfl) (by decide) (fun c3 => absurd c3 (by decide)) (fun _ => ?_)
      refine v_iload_n G (decAt dd_BT_folded 3 rfl) rfl ?_
      refine v_bipush G 9 (decAt dd_BT_folded 4 rfl) (by decide) ?_
      refine v_icmp_ne G 67 (decAt dd_BT_folded 5 rfl) (by decide) (fun _ => ?_) (fun c9 => absurd c9 (by decide))
      refine v_iload_n G (decAt dd_BT_folded 40 rfl) rfl ?_
      refine v_bipush G 10 (decAt dd_BT_folded 41 rfl) (by decide) ?_
      refine v_icmp_eq G 79 (decAt dd_BT_folded 42 rfl) (by decide) (fun c70 => absurd c70 (by decide)) (fun _ => ?_)
      refine v_iload_n G (decAt dd_BT_folded 43 rfl) rfl ?_
      refine v_bipush G 11 (decAt dd_BT_folded 44 rfl) (by decide) ?_
      refine v_icmp_ne G 197 (decAt dd_BT_folded 45 rfl) (by decide) (fun c76 => absurd c76 (by decide)) (fun _ => ?_)
      refine v_aload_n G (decAt dd_BT_folded 46 rfl) rfl ?_
      refine v_iconst G 2 (decAt dd_BT_folded 47 rfl) (by decide) ?_
      refine v_callVis G (As := [.int (nI 2)]) (decAt dd_BT_folded 48 rfl) k_BT_75 (c_BT_isConstant l hE (τ := [(0, y)]) (b := 0) (by omega) hm hl hn13 hT) (by decide) rfl rfl rfl (Nat.le_of_ble_eq_true rfl) (by decide) rfl rfl (by decide) ?_
      refine v_ri (y := 1) rfl ?_
      refine v_if_eq G 197 (decAt dd_BT_folded 49 rfl) (by decide) (fun c84 => absurd c84 (by decide)) (fun _ => ?_)
      refine v_aload_n G (decAt dd_BT_folded 50 rfl) rfl ?_
      refine v_iconst G 4 (decAt dd_BT_folded 51 rfl) (by decide) ?_
      refine v_callVis G (As := [.int (nI 4)]) (decAt dd_BT_folded 52 rfl) k_BT_75 (c_BT_isConstant l hE (τ := [(0, y)]) (b := 1) (by omega) hm hl hn13 hT) (by decide) rfl rfl rfl (Nat.le_of_ble_eq_true rfl) (by decide) rfl rfl (by decide) ?_
      refine v_ri (y := 0) rfl ?_
      refine v_if_eq G 197 (decAt dd_BT_folded 53 rfl) (by decide) (fun _ => ?_) (fun c92 => absurd c92 (by decide))
      refine v_iload_n G (decAt dd_BT_folded 114 rfl) rfl ?_
      refine v_bipush G 14 (decAt dd_BT_folded 115 rfl) (by decide) ?_
      refine v_icmp_eq G 209 (decAt dd_BT_folded 116 rfl) (by decide) (fun c200 => absurd c200 (by decide)) (fun _ => ?_)
      refine v_iload_n G (decAt dd_BT_folded 117 rfl) rfl ?_
      refine v_bipush G 15 (decAt dd_BT_folded 118 rfl) (by decide) ?_
      refine v_icmp_ne G 279 (decAt dd_BT_folded 119 rfl) (by decide) (fun _ => ?_) (fun c206 => absurd c206 (by decide))
      refine v_iload_n G (decAt dd_BT_folded 160 rfl) rfl ?_
      refine v_bipush G 19 (decAt dd_BT_folded 161 rfl) (by decide) ?_
      refine v_icmp_ne G 365 (decAt dd_BT_folded 162 rfl) (by decide) (fun _ => ?_) (fun c282 => absurd c282 (by decide))
      refine v_iconst G 0 (decAt dd_BT_folded 210 rfl) (by decide) ?_
      exact v_zret G (decAt dd_BT_folded 211 rfl) rfl rfl ⟨A 13, rfl, hT, rfl, (up2_id hm).symm, (va_up_id A 13).symm, rfl, rfl⟩
    · skip
      obtain ⟨u1, u2, u3, t1, t2, t3, t4⟩ := id hT
      have hl2 : 2 * (r.length + 1 + 1) ≤ n 13 := hl
      obtain ⟨j, hj, haj, hjc⟩ := inR_nI (b := 6) ha
      refine v_L (L' := [some (.ref (E.o 2)), some (.int (nI 11)), some (.int a), none, none]) (fun _ _ z => z) ?_
      refine v_iload_n G (decAt dd_BT_folded 0 rfl) rfl ?_
      refine v_bipush G 8 (decAt dd_BT_folded 1 rfl) (by decide) ?_
      refine v_icmp_eq G 12 (decAt dd_BT_folded 2 rfl) (by decide) (fun c3 => absurd c3 (by decide)) (fun _ => ?_)
      refine v_iload_n G (decAt dd_BT_folded 3 rfl) rfl ?_
      refine v_bipush G 9 (decAt dd_BT_folded 4 rfl) (by decide) ?_
      refine v_icmp_ne G 67 (decAt dd_BT_folded 5 rfl) (by decide) (fun _ => ?_) (fun c9 => absurd c9 (by decide))
      refine v_iload_n G (decAt dd_BT_folded 40 rfl) rfl ?_
      refine v_bipush G 10 (decAt dd_BT_folded 41 rfl) (by decide) ?_
      refine v_icmp_eq G 79 (decAt dd_BT_folded 42 rfl) (by decide) (fun c70 => absurd c70 (by decide)) (fun _ => ?_)
      refine v_iload_n G (decAt dd_BT_folded 43 rfl) rfl ?_
      refine v_bipush G 11 (decAt dd_BT_folded 44 rfl) (by decide) ?_
      refine v_icmp_ne G 197 (decAt dd_BT_folded 45 rfl) (by decide) (fun c76 => absurd c76 (by decide)) (fun _ => ?_)
      refine v_aload_n G (decAt dd_BT_folded 46 rfl) rfl ?_
      refine v_iconst G 2 (decAt dd_BT_folded 47 rfl) (by decide) ?_
      refine v_callVis G (As := [.int (nI 2)]) (decAt dd_BT_folded 48 rfl) k_BT_75 (c_BT_isConstant l hE (τ := (0, y) :: (0, x) :: r) (b := 0) (by omega) hm hl hn13 hT) (by decide) rfl rfl rfl (Nat.le_of_ble_eq_true rfl) (by decide) rfl rfl (by decide) ?_
      refine v_ri (y := 1) rfl ?_
      refine v_if_eq G 197 (decAt dd_BT_folded 49 rfl) (by decide) (fun c84 => absurd c84 (by decide)) (fun _ => ?_)
      refine v_aload_n G (decAt dd_BT_folded 50 rfl) rfl ?_
      refine v_iconst G 4 (decAt dd_BT_folded 51 rfl) (by decide) ?_
      refine v_callVis G (As := [.int (nI 4)]) (decAt dd_BT_folded 52 rfl) k_BT_75 (c_BT_isConstant l hE (τ := (0, y) :: (0, x) :: r) (b := 1) (by omega) hm hl hn13 hT) (by decide) rfl rfl rfl (Nat.le_of_ble_eq_true rfl) (by decide) rfl rfl (by decide) ?_
      refine v_ri (y := 1) rfl ?_
      refine v_if_eq G 197 (decAt dd_BT_folded 53 rfl) (by decide) (fun c92 => absurd c92 (by decide)) (fun _ => ?_)
      refine v_aload_n G (decAt dd_BT_folded 54 rfl) rfl ?_
      refine v_geta G (decAt dd_BT_folded 55 rfl) f_BT_15 ?_
      refine v_aload_n G (decAt dd_BT_folded 56 rfl) rfl ?_
      refine v_geti G (decAt dd_BT_folded 57 rfl) f_BT_49 ?_
      refine v_ri (y := (nI (2 * ((0, y) :: (0, x) :: r : Cod).length))) hm ?_
      refine v_iconst G 3 (decAt dd_BT_folded 58 rfl) (by decide) ?_
      refine v_isub G (decAt dd_BT_folded 59 rfl) ?_
      refine v_ri (y := (nI (2 * r.length + 1))) (nI_sub (2 * r.length + 1) 3) ?_
      refine v_iald G 13 (2 * r.length + 1) (decAt dd_BT_folded 60 rfl) (by decide) rfl rfl (by omega) ?_
      refine v_ri (y := x) t2 ?_
      refine v_istore_3 G (decAt dd_BT_folded 61 rfl) (by decide) rfl ?_
      refine v_aload_n G (decAt dd_BT_folded 62 rfl) rfl ?_
      refine v_geta G (decAt dd_BT_folded 63 rfl) f_BT_15 ?_
      refine v_aload_n G (decAt dd_BT_folded 64 rfl) rfl ?_
      refine v_geti G (decAt dd_BT_folded 65 rfl) f_BT_49 ?_
      refine v_ri (y := (nI (2 * ((0, y) :: (0, x) :: r : Cod).length))) hm ?_
      refine v_iconst G 1 (decAt dd_BT_folded 66 rfl) (by decide) ?_
      refine v_isub G (decAt dd_BT_folded 67 rfl) ?_
      refine v_ri (y := (nI (2 * (r.length + 1) + 1))) (nI_sub (2 * (r.length + 1) + 1) 1) ?_
      refine v_iald G 13 (2 * (r.length + 1) + 1) (decAt dd_BT_folded 68 rfl) (by decide) rfl rfl (by omega) ?_
      refine v_ri (y := y) u2 ?_
      refine v_istore_4 G (decAt dd_BT_folded 69 rfl) (by decide) rfl ?_
      refine v_iload_n G (decAt dd_BT_folded 70 rfl) rfl ?_
      refine v_bipush G 10 (decAt dd_BT_folded 71 rfl) (by decide) ?_
      refine v_icmp_ne G 143 (decAt dd_BT_folded 72 rfl) (by decide) (fun _ => ?_) (fun c123 => absurd c123 (by decide))
      refine v_aload_n G (decAt dd_BT_folded 83 rfl) rfl ?_
      refine v_dup G (decAt dd_BT_folded 84 rfl) rfl ?_
      refine v_geti G (decAt dd_BT_folded 85 rfl) f_BT_49 ?_
      refine v_ri (y := (nI (2 * ((0, y) :: (0, x) :: r : Cod).length))) hm ?_
      refine v_iconst G 2 (decAt dd_BT_folded 86 rfl) (by decide) ?_
      refine v_isub G (decAt dd_BT_folded 87 rfl) ?_
      refine v_ri (y := (nI (2 * (r.length + 1)))) (nI_sub (2 * (r.length + 1)) 2) ?_
      refine v_puti G (decAt dd_BT_folded 88 rfl) f_BT_49 rfl rfl rfl ?_
      refine v_aload_n G (decAt dd_BT_folded 89 rfl) rfl ?_
      refine v_geta G (decAt dd_BT_folded 90 rfl) f_BT_15 ?_
      refine v_aload_n G (decAt dd_BT_folded 91 rfl) rfl ?_
      refine v_geti G (decAt dd_BT_folded 92 rfl) f_BT_49 ?_
      refine v_ri (y := (nI (2 * (r.length + 1)))) rfl ?_
      refine v_iconst G 1 (decAt dd_BT_folded 93 rfl) (by decide) ?_
      refine v_isub G (decAt dd_BT_folded 94 rfl) ?_
      refine v_ri (y := (nI (2 * r.length + 1))) (nI_sub (2 * r.length + 1) 1) ?_
      refine v_iload_n G (decAt dd_BT_folded 95 rfl) rfl ?_
      refine v_bipush G 10 (decAt dd_BT_folded 96 rfl) (by decide) ?_
      refine v_icmp_ne G 179 (decAt dd_BT_folded 97 rfl) (by decide) (fun _ => ?_) (fun c166 => absurd c166 (by decide))
      refine v_iload_n G (decAt dd_BT_folded 103 rfl) rfl ?_
      refine v_iload_n G (decAt dd_BT_folded 104 rfl) rfl ?_
      refine v_iload G (decAt dd_BT_folded 105 rfl) rfl ?_
      refine v_S (S' := [.int y, .int x, .int (nI j), .int (nI (2 * r.length + 1)), .ref (ρ 13)]) (by rw [haj]) ?_
      refine p_callNi G (XB_Sy G) (As := [.int (nI j), .int x, .int y]) (decAt dd_BT_folded 106 rfl) k_BT_83 (c_RC_holds l hE (k := j) (by omega)) rfl rfl (Nat.le_of_ble_eq_true rfl) (by decide) rfl rfl (by decide) ?_
      refine v_if_eq G 193 (decAt dd_BT_folded 107 rfl) (by decide) (fun c186 => ?_) (fun c186 => ?_)
      · skip
        refine v_iconst G 0 (decAt dd_BT_folded 110 rfl) (by decide) ?_
        refine v_iast G 13 (2 * r.length + 1) (decAt dd_BT_folded 111 rfl) (by decide) rfl rfl (by omega) ?_
        refine v_iconst G 1 (decAt dd_BT_folded 112 rfl) (by decide) ?_
        have hff : fold1 ((0, y) :: (0, x) :: r) 8 a = some ((0, rI (rel j x y)) :: r) := by
          show some _ = _
          rw [hjc]
        exact v_zret G (decAt dd_BT_folded 113 rfl) rfl rfl ⟨_, by rw [hff]; rfl, by rw [hff]; exact ⟨by rw [va_up_ne _ _ (by omega)]; exact t1, by rw [va_up_self]; cases hb : rel j x y <;> first | rfl | (rw [hb] at c186; exact absurd rfl c186) | (rw [hb] at c186; exact absurd c186 (by decide)), t3, t4.up (by omega)⟩, rfl, by rw [hff]; rfl, rfl, rfl, rfl⟩
      · skip
        refine v_iconst G (-1) (decAt dd_BT_folded 108 rfl) (by decide) ?_
        refine v_goto G 194 (decAt dd_BT_folded 109 rfl) (by decide) ?_
        refine v_iast G 13 (2 * r.length + 1) (decAt dd_BT_folded 111 rfl) (by decide) rfl rfl (by omega) ?_
        refine v_iconst G 1 (decAt dd_BT_folded 112 rfl) (by decide) ?_
        have hff : fold1 ((0, y) :: (0, x) :: r) 8 a = some ((0, rI (rel j x y)) :: r) := by
          show some _ = _
          rw [hjc]
        exact v_zret G (decAt dd_BT_folded 113 rfl) rfl rfl ⟨_, by rw [hff]; rfl, by rw [hff]; exact ⟨by rw [va_up_ne _ _ (by omega)]; exact t1, by rw [va_up_self]; cases hb : rel j x y <;> first | rfl | (rw [hb] at c186; exact absurd rfl c186) | (rw [hb] at c186; exact absurd c186 (by decide)), t3, t4.up (by omega)⟩, rfl, by rw [hff]; rfl, rfl, rfl, rfl⟩
    · skip
      refine v_L (L' := [some (.ref (E.o 2)), some (.int (nI 11)), some (.int a), none, none]) (fun _ _ z => z) ?_
      refine v_iload_n G (decAt dd_BT_folded 0 rfl) rfl ?_
      refine v_bipush G 8 (decAt dd_BT_folded 1 rfl) (by decide) ?_
      refine v_icmp_eq G 12 (decAt dd_BT_folded 2 rfl) (by decide) (fun c3 => absurd c3 (by decide)) (fun _ => ?_)
      refine v_iload_n G (decAt dd_BT_folded 3 rfl) rfl ?_
      refine v_bipush G 9 (decAt dd_BT_folded 4 rfl) (by decide) ?_
      refine v_icmp_ne G 67 (decAt dd_BT_folded 5 rfl) (by decide) (fun _ => ?_) (fun c9 => absurd c9 (by decide))
      refine v_iload_n G (decAt dd_BT_folded 40 rfl) rfl ?_
      refine v_bipush G 10 (decAt dd_BT_folded 41 rfl) (by decide) ?_
      refine v_icmp_eq G 79 (decAt dd_BT_folded 42 rfl) (by decide) (fun c70 => absurd c70 (by decide)) (fun _ => ?_)
      refine v_iload_n G (decAt dd_BT_folded 43 rfl) rfl ?_
      refine v_bipush G 11 (decAt dd_BT_folded 44 rfl) (by decide) ?_
      refine v_icmp_ne G 197 (decAt dd_BT_folded 45 rfl) (by decide) (fun c76 => absurd c76 (by decide)) (fun _ => ?_)
      refine v_aload_n G (decAt dd_BT_folded 46 rfl) rfl ?_
      refine v_iconst G 2 (decAt dd_BT_folded 47 rfl) (by decide) ?_
      refine v_callVis G (As := [.int (nI 2)]) (decAt dd_BT_folded 48 rfl) k_BT_75 (c_BT_isConstant l hE (τ := (0, y) :: (N + 1, x) :: r) (b := 0) (by omega) hm hl hn13 hT) (by decide) rfl rfl rfl (Nat.le_of_ble_eq_true rfl) (by decide) rfl rfl (by decide) ?_
      refine v_ri (y := 1) rfl ?_
      refine v_if_eq G 197 (decAt dd_BT_folded 49 rfl) (by decide) (fun c84 => absurd c84 (by decide)) (fun _ => ?_)
      refine v_aload_n G (decAt dd_BT_folded 50 rfl) rfl ?_
      refine v_iconst G 4 (decAt dd_BT_folded 51 rfl) (by decide) ?_
      refine v_callVis G (As := [.int (nI 4)]) (decAt dd_BT_folded 52 rfl) k_BT_75 (c_BT_isConstant l hE (τ := (0, y) :: (N + 1, x) :: r) (b := 1) (by omega) hm hl hn13 hT) (by decide) rfl rfl rfl (Nat.le_of_ble_eq_true rfl) (by decide) rfl rfl (by decide) ?_
      refine v_ri (y := 0) rfl ?_
      refine v_if_eq G 197 (decAt dd_BT_folded 53 rfl) (by decide) (fun _ => ?_) (fun c92 => absurd c92 (by decide))
      refine v_iload_n G (decAt dd_BT_folded 114 rfl) rfl ?_
      refine v_bipush G 14 (decAt dd_BT_folded 115 rfl) (by decide) ?_
      refine v_icmp_eq G 209 (decAt dd_BT_folded 116 rfl) (by decide) (fun c200 => absurd c200 (by decide)) (fun _ => ?_)
      refine v_iload_n G (decAt dd_BT_folded 117 rfl) rfl ?_
      refine v_bipush G 15 (decAt dd_BT_folded 118 rfl) (by decide) ?_
      refine v_icmp_ne G 279 (decAt dd_BT_folded 119 rfl) (by decide) (fun _ => ?_) (fun c206 => absurd c206 (by decide))
      refine v_iload_n G (decAt dd_BT_folded 160 rfl) rfl ?_
      refine v_bipush G 19 (decAt dd_BT_folded 161 rfl) (by decide) ?_
      refine v_icmp_ne G 365 (decAt dd_BT_folded 162 rfl) (by decide) (fun _ => ?_) (fun c282 => absurd c282 (by decide))
      refine v_iconst G 0 (decAt dd_BT_folded 210 rfl) (by decide) ?_
      exact v_zret G (decAt dd_BT_folded 211 rfl) rfl rfl ⟨A 13, rfl, hT, rfl, (up2_id hm).symm, (va_up_id A 13).symm, rfl, rfl⟩
    · skip
      refine v_L (L' := [some (.ref (E.o 2)), some (.int (nI 11)), some (.int a), none, none]) (fun _ _ z => z) ?_
      refine v_iload_n G (decAt dd_BT_folded 0 rfl) rfl ?_
      refine v_bipush G 8 (decAt dd_BT_folded 1 rfl) (by decide) ?_
      refine v_icmp_eq G 12 (decAt dd_BT_folded 2 rfl) (by decide) (fun c3 => absurd c3 (by decide)) (fun _ => ?_)
      refine v_iload_n G (decAt dd_BT_folded 3 rfl) rfl ?_
      refine v_bipush G 9 (decAt dd_BT_folded 4 rfl) (by decide) ?_
      refine v_icmp_ne G 67 (decAt dd_BT_folded 5 rfl) (by decide) (fun _ => ?_) (fun c9 => absurd c9 (by decide))
      refine v_iload_n G (decAt dd_BT_folded 40 rfl) rfl ?_
      refine v_bipush G 10 (decAt dd_BT_folded 41 rfl) (by decide) ?_
      refine v_icmp_eq G 79 (decAt dd_BT_folded 42 rfl) (by decide) (fun c70 => absurd c70 (by decide)) (fun _ => ?_)
      refine v_iload_n G (decAt dd_BT_folded 43 rfl) rfl ?_
      refine v_bipush G 11 (decAt dd_BT_folded 44 rfl) (by decide) ?_
      refine v_icmp_ne G 197 (decAt dd_BT_folded 45 rfl) (by decide) (fun c76 => absurd c76 (by decide)) (fun _ => ?_)
      refine v_aload_n G (decAt dd_BT_folded 46 rfl) rfl ?_
      refine v_iconst G 2 (decAt dd_BT_folded 47 rfl) (by decide) ?_
      refine v_callVis G (As := [.int (nI 2)]) (decAt dd_BT_folded 48 rfl) k_BT_75 (c_BT_isConstant l hE (τ := [(N + 1, y)]) (b := 0) (by omega) hm hl hn13 hT) (by decide) rfl rfl rfl (Nat.le_of_ble_eq_true rfl) (by decide) rfl rfl (by decide) ?_
      refine v_ri (y := 0) rfl ?_
      refine v_if_eq G 197 (decAt dd_BT_folded 49 rfl) (by decide) (fun _ => ?_) (fun c84 => absurd c84 (by decide))
      refine v_iload_n G (decAt dd_BT_folded 114 rfl) rfl ?_
      refine v_bipush G 14 (decAt dd_BT_folded 115 rfl) (by decide) ?_
      refine v_icmp_eq G 209 (decAt dd_BT_folded 116 rfl) (by decide) (fun c200 => absurd c200 (by decide)) (fun _ => ?_)
      refine v_iload_n G (decAt dd_BT_folded 117 rfl) rfl ?_
      refine v_bipush G 15 (decAt dd_BT_folded 118 rfl) (by decide) ?_
      refine v_icmp_ne G 279 (decAt dd_BT_folded 119 rfl) (by decide) (fun _ => ?_) (fun c206 => absurd c206 (by decide))
      refine v_iload_n G (decAt dd_BT_folded 160 rfl) rfl ?_
      refine v_bipush G 19 (decAt dd_BT_folded 161 rfl) (by decide) ?_
      refine v_icmp_ne G 365 (decAt dd_BT_folded 162 rfl) (by decide) (fun _ => ?_) (fun c282 => absurd c282 (by decide))
      refine v_iconst G 0 (decAt dd_BT_folded 210 rfl) (by decide) ?_
      exact v_zret G (decAt dd_BT_folded 211 rfl) rfl rfl ⟨A 13, rfl, hT, rfl, (up2_id hm).symm, (va_up_id A 13).symm, rfl, rfl⟩
    · skip
      refine v_L (L' := [some (.ref (E.o 2)), some (.int (nI 11)), some (.int a), none, none]) (fun _ _ z => z) ?_
      refine v_iload_n G (decAt dd_BT_folded 0 rfl) rfl ?_
      refine v_bipush G 8 (decAt dd_BT_folded 1 rfl) (by decide) ?_
      refine v_icmp_eq G 12 (decAt dd_BT_folded 2 rfl) (by decide) (fun c3 => absurd c3 (by decide)) (fun _ => ?_)
      refine v_iload_n G (decAt dd_BT_folded 3 rfl) rfl ?_
      refine v_bipush G 9 (decAt dd_BT_folded 4 rfl) (by decide) ?_
      refine v_icmp_ne G 67 (decAt dd_BT_folded 5 rfl) (by decide) (fun _ => ?_) (fun c9 => absurd c9 (by decide))
      refine v_iload_n G (decAt dd_BT_folded 40 rfl) rfl ?_
      refine v_bipush G 10 (decAt dd_BT_folded 41 rfl) (by decide) ?_
      refine v_icmp_eq G 79 (decAt dd_BT_folded 42 rfl) (by decide) (fun c70 => absurd c70 (by decide)) (fun _ => ?_)
      refine v_iload_n G (decAt dd_BT_folded 43 rfl) rfl ?_
      refine v_bipush G 11 (decAt dd_BT_folded 44 rfl) (by decide) ?_
      refine v_icmp_ne G 197 (decAt dd_BT_folded 45 rfl) (by decide) (fun c76 => absurd c76 (by decide)) (fun _ => ?_)
      refine v_aload_n G (decAt dd_BT_folded 46 rfl) rfl ?_
      refine v_iconst G 2 (decAt dd_BT_folded 47 rfl) (by decide) ?_
      refine v_callVis G (As := [.int (nI 2)]) (decAt dd_BT_folded 48 rfl) k_BT_75 (c_BT_isConstant l hE (τ := _) (b := 0) (by omega) hm hl hn13 hT) (by decide) rfl rfl rfl (Nat.le_of_ble_eq_true rfl) (by decide) rfl rfl (by decide) ?_
      refine v_ri (y := 0) rfl ?_
      refine v_if_eq G 197 (decAt dd_BT_folded 49 rfl) (by decide) (fun _ => ?_) (fun c84 => absurd c84 (by decide))
      refine v_iload_n G (decAt dd_BT_folded 114 rfl) rfl ?_
      refine v_bipush G 14 (decAt dd_BT_folded 115 rfl) (by decide) ?_
      refine v_icmp_eq G 209 (decAt dd_BT_folded 116 rfl) (by decide) (fun c200 => absurd c200 (by decide)) (fun _ => ?_)
      refine v_iload_n G (decAt dd_BT_folded 117 rfl) rfl ?_
      refine v_bipush G 15 (decAt dd_BT_folded 118 rfl) (by decide) ?_
      refine v_icmp_ne G 279 (decAt dd_BT_folded 119 rfl) (by decide) (fun _ => ?_) (fun c206 => absurd c206 (by decide))
      refine v_iload_n G (decAt dd_BT_folded 160 rfl) rfl ?_
      refine v_bipush G 19 (decAt dd_BT_folded 161 rfl) (by decide) ?_
      refine v_icmp_ne G 365 (decAt dd_BT_folded 162 rfl) (by decide) (fun _ => ?_) (fun c282 => absurd c282 (by decide))
      refine v_iconst G 0 (decAt dd_BT_folded 210 rfl) (by decide) ?_
      exact v_zret G (decAt dd_BT_folded 211 rfl) rfl rfl ⟨A 13, rfl, hT, rfl, (up2_id hm).symm, (va_up_id A 13).symm, rfl, rfl⟩
    · skip
      refine v_L (L' := [some (.ref (E.o 2)), some (.int (nI 11)), some (.int a), none, none]) (fun _ _ z => z) ?_
      refine v_iload_n G (decAt dd_BT_folded 0 rfl) rfl ?_
      refine v_bipush G 8 (decAt dd_BT_folded 1 rfl) (by decide) ?_
      refine v_icmp_eq G 12 (decAt dd_BT_folded 2 rfl) (by decide) (fun c3 => absurd c3 (by decide)) (fun _ => ?_)
      refine v_iload_n G (decAt dd_BT_folded 3 rfl) rfl ?_
      refine v_bipush G 9 (decAt dd_BT_folded 4 rfl) (by decide) ?_
      refine v_icmp_ne G 67 (decAt dd_BT_folded 5 rfl) (by decide) (fun _ => ?_) (fun c9 => absurd c9 (by decide))
      refine v_iload_n G (decAt dd_BT_folded 40 rfl) rfl ?_
      refine v_bipush G 10 (decAt dd_BT_folded 41 rfl) (by decide) ?_
      refine v_icmp_eq G 79 (decAt dd_BT_folded 42 rfl) (by decide) (fun c70 => absurd c70 (by decide)) (fun _ => ?_)
      refine v_iload_n G (decAt dd_BT_folded 43 rfl) rfl ?_
      refine v_bipush G 11 (decAt dd_BT_folded 44 rfl) (by decide) ?_
      refine v_icmp_ne G 197 (decAt dd_BT_folded 45 rfl) (by decide) (fun c76 => absurd c76 (by decide)) (fun _ => ?_)
      refine v_aload_n G (decAt dd_BT_folded 46 rfl) rfl ?_
      refine v_iconst G 2 (decAt dd_BT_folded 47 rfl) (by decide) ?_
      refine v_callVis G (As := [.int (nI 2)]) (decAt dd_BT_folded 48 rfl) k_BT_75 (c_BT_isConstant l hE (τ := _) (b := 0) (by omega) hm hl hn13 hT) (by decide) rfl rfl rfl (Nat.le_of_ble_eq_true rfl) (by decide) rfl rfl (by decide) ?_
      refine v_ri (y := 0) rfl ?_
      refine v_if_eq G 197 (decAt dd_BT_folded 49 rfl) (by decide) (fun _ => ?_) (fun c84 => absurd c84 (by decide))
      refine v_iload_n G (decAt dd_BT_folded 114 rfl) rfl ?_
      refine v_bipush G 14 (decAt dd_BT_folded 115 rfl) (by decide) ?_
      refine v_icmp_eq G 209 (decAt dd_BT_folded 116 rfl) (by decide) (fun c200 => absurd c200 (by decide)) (fun _ => ?_)
      refine v_iload_n G (decAt dd_BT_folded 117 rfl) rfl ?_
      refine v_bipush G 15 (decAt dd_BT_folded 118 rfl) (by decide) ?_
      refine v_icmp_ne G 279 (decAt dd_BT_folded 119 rfl) (by decide) (fun _ => ?_) (fun c206 => absurd c206 (by decide))
      refine v_iload_n G (decAt dd_BT_folded 160 rfl) rfl ?_
      refine v_bipush G 19 (decAt dd_BT_folded 161 rfl) (by decide) ?_
      refine v_icmp_ne G 365 (decAt dd_BT_folded 162 rfl) (by decide) (fun _ => ?_) (fun c282 => absurd c282 (by decide))
      refine v_iconst G 0 (decAt dd_BT_folded 210 rfl) (by decide) ?_
      exact v_zret G (decAt dd_BT_folded 211 rfl) rfl rfl ⟨A 13, rfl, hT, rfl, (up2_id hm).symm, (va_up_id A 13).symm, rfl, rfl⟩
  · skip
    refine v_L (L' := [some (.ref (E.o 2)), some (.int (nI 12)), some (.int a), none, none]) (fun _ _ z => z) ?_
    refine v_iload_n G (decAt dd_BT_folded 0 rfl) rfl ?_
    refine v_bipush G 8 (decAt dd_BT_folded 1 rfl) (by decide) ?_
    refine v_icmp_eq G 12 (decAt dd_BT_folded 2 rfl) (by decide) (fun c3 => absurd c3 (by decide)) (fun _ => ?_)
    refine v_iload_n G (decAt dd_BT_folded 3 rfl) rfl ?_
    refine v_bipush G 9 (decAt dd_BT_folded 4 rfl) (by decide) ?_
    refine v_icmp_ne G 67 (decAt dd_BT_folded 5 rfl) (by decide) (fun _ => ?_) (fun c9 => absurd c9 (by decide))
    refine v_iload_n G (decAt dd_BT_folded 40 rfl) rfl ?_
    refine v_bipush G 10 (decAt dd_BT_folded 41 rfl) (by decide) ?_
    refine v_icmp_eq G 79 (decAt dd_BT_folded 42 rfl) (by decide) (fun c70 => absurd c70 (by decide)) (fun _ => ?_)
    refine v_iload_n G (decAt dd_BT_folded 43 rfl) rfl ?_
    refine v_bipush G 11 (decAt dd_BT_folded 44 rfl) (by decide) ?_
    refine v_icmp_ne G 197 (decAt dd_BT_folded 45 rfl) (by decide) (fun _ => ?_) (fun c76 => absurd c76 (by decide))
    refine v_iload_n G (decAt dd_BT_folded 114 rfl) rfl ?_
    refine v_bipush G 14 (decAt dd_BT_folded 115 rfl) (by decide) ?_
    refine v_icmp_eq G 209 (decAt dd_BT_folded 116 rfl) (by decide) (fun c200 => absurd c200 (by decide)) (fun _ => ?_)
    refine v_iload_n G (decAt dd_BT_folded 117 rfl) rfl ?_
    refine v_bipush G 15 (decAt dd_BT_folded 118 rfl) (by decide) ?_
    refine v_icmp_ne G 279 (decAt dd_BT_folded 119 rfl) (by decide) (fun _ => ?_) (fun c206 => absurd c206 (by decide))
    refine v_iload_n G (decAt dd_BT_folded 160 rfl) rfl ?_
    refine v_bipush G 19 (decAt dd_BT_folded 161 rfl) (by decide) ?_
    refine v_icmp_ne G 365 (decAt dd_BT_folded 162 rfl) (by decide) (fun _ => ?_) (fun c282 => absurd c282 (by decide))
    refine v_iconst G 0 (decAt dd_BT_folded 210 rfl) (by decide) ?_
    exact v_zret G (decAt dd_BT_folded 211 rfl) rfl rfl ⟨A 13, rfl, hT, rfl, (up2_id hm).symm, (va_up_id A 13).symm, rfl, rfl⟩
  · skip
    refine v_L (L' := [some (.ref (E.o 2)), some (.int (nI 13)), some (.int a), none, none]) (fun _ _ z => z) ?_
    refine v_iload_n G (decAt dd_BT_folded 0 rfl) rfl ?_
    refine v_bipush G 8 (decAt dd_BT_folded 1 rfl) (by decide) ?_
    refine v_icmp_eq G 12 (decAt dd_BT_folded 2 rfl) (by decide) (fun c3 => absurd c3 (by decide)) (fun _ => ?_)
    refine v_iload_n G (decAt dd_BT_folded 3 rfl) rfl ?_
    refine v_bipush G 9 (decAt dd_BT_folded 4 rfl) (by decide) ?_
    refine v_icmp_ne G 67 (decAt dd_BT_folded 5 rfl) (by decide) (fun _ => ?_) (fun c9 => absurd c9 (by decide))
    refine v_iload_n G (decAt dd_BT_folded 40 rfl) rfl ?_
    refine v_bipush G 10 (decAt dd_BT_folded 41 rfl) (by decide) ?_
    refine v_icmp_eq G 79 (decAt dd_BT_folded 42 rfl) (by decide) (fun c70 => absurd c70 (by decide)) (fun _ => ?_)
    refine v_iload_n G (decAt dd_BT_folded 43 rfl) rfl ?_
    refine v_bipush G 11 (decAt dd_BT_folded 44 rfl) (by decide) ?_
    refine v_icmp_ne G 197 (decAt dd_BT_folded 45 rfl) (by decide) (fun _ => ?_) (fun c76 => absurd c76 (by decide))
    refine v_iload_n G (decAt dd_BT_folded 114 rfl) rfl ?_
    refine v_bipush G 14 (decAt dd_BT_folded 115 rfl) (by decide) ?_
    refine v_icmp_eq G 209 (decAt dd_BT_folded 116 rfl) (by decide) (fun c200 => absurd c200 (by decide)) (fun _ => ?_)
    refine v_iload_n G (decAt dd_BT_folded 117 rfl) rfl ?_
    refine v_bipush G 15 (decAt dd_BT_folded 118 rfl) (by decide) ?_
    refine v_icmp_ne G 279 (decAt dd_BT_folded 119 rfl) (by decide) (fun _ => ?_) (fun c206 => absurd c206 (by decide))
    refine v_iload_n G (decAt dd_BT_folded 160 rfl) rfl ?_
    refine v_bipush G 19 (decAt dd_BT_folded 161 rfl) (by decide) ?_
    refine v_icmp_ne G 365 (decAt dd_BT_folded 162 rfl) (by decide) (fun _ => ?_) (fun c282 => absurd c282 (by decide))
    refine v_iconst G 0 (decAt dd_BT_folded 210 rfl) (by decide) ?_
    exact v_zret G (decAt dd_BT_folded 211 rfl) rfl rfl ⟨A 13, rfl, hT, rfl, (up2_id hm).symm, (va_up_id A 13).symm, rfl, rfl⟩
  · skip
    rcases τ with _ | ⟨⟨_ | N, y⟩, r⟩
    · skip
      refine v_L (L' := [some (.ref (E.o 2)), some (.int (nI 14)), some (.int a), none, none]) (fun _ _ z => z) ?_
      refine v_iload_n G (decAt dd_BT_folded 0 rfl) rfl ?_
      refine v_bipush G 8 (decAt dd_BT_folded 1 rfl) (by decide) ?_
      refine v_icmp_eq G 12 (decAt dd_BT_folded 2 rfl) (by decide) (fun c3 => absurd c3 (by decide)) (fun _ => ?_)
      refine v_iload_n G (decAt dd_BT_folded 3 rfl) rfl ?_
      refine v_bipush G 9 (decAt dd_BT_folded 4 rfl) (by decide) ?_
      refine v_icmp_ne G 67 (decAt dd_BT_folded 5 rfl) (by decide) (fun _ => ?_) (fun c9 => absurd c9 (by decide))
      refine v_iload_n G (decAt dd_BT_folded 40 rfl) rfl ?_
      refine v_bipush G 10 (decAt dd_BT_folded 41 rfl) (by decide) ?_
      refine v_icmp_eq G 79 (decAt dd_BT_folded 42 rfl) (by decide) (fun c70 => absurd c70 (by decide)) (fun _ => ?_)
      refine v_iload_n G (decAt dd_BT_folded 43 rfl) rfl ?_
      refine v_bipush G 11 (decAt dd_BT_folded 44 rfl) (by decide) ?_
      refine v_icmp_ne G 197 (decAt dd_BT_folded 45 rfl) (by decide) (fun _ => ?_) (fun c76 => absurd c76 (by decide))
      refine v_iload_n G (decAt dd_BT_folded 114 rfl) rfl ?_
      refine v_bipush G 14 (decAt dd_BT_folded 115 rfl) (by decide) ?_
      refine v_icmp_eq G 209 (decAt dd_BT_folded 116 rfl) (by decide) (fun _ => ?_) (fun c200 => absurd c200 (by decide))
      refine v_aload_n G (decAt dd_BT_folded 120 rfl) rfl ?_
      refine v_iconst G 2 (decAt dd_BT_folded 121 rfl) (by decide) ?_
      refine v_callVis G (As := [.int (nI 2)]) (decAt dd_BT_folded 122 rfl) k_BT_75 (c_BT_isConstant l hE (τ := ([] : Cod)) (b := 0) (by omega) hm hl hn13 hT) (by decide) rfl rfl rfl (Nat.le_of_ble_eq_true rfl) (by decide) rfl rfl (by decide) ?_
      refine v_ri (y := 0) rfl ?_
      refine v_if_eq G 279 (decAt dd_BT_folded 123 rfl) (by decide) (fun _ => ?_) (fun c214 => absurd c214 (by decide))
      refine v_iload_n G (decAt dd_BT_folded 160 rfl) rfl ?_
      refine v_bipush G 19 (decAt dd_BT_folded 161 rfl) (by decide) ?_
      refine v_icmp_ne G 365 (decAt dd_BT_folded 162 rfl) (by decide) (fun _ => ?_) (fun c282 => absurd c282 (by decide))
      refine v_iconst G 0 (decAt dd_BT_folded 210 rfl) (by decide) ?_
      exact v_zret G (decAt dd_BT_folded 211 rfl) rfl rfl ⟨A 13, rfl, hT, rfl, (up2_id hm).symm, (va_up_id A 13).symm, rfl, rfl⟩
    · skip
      obtain ⟨t1, t2, t3, t4⟩ := id hT
      have hl2 : 2 * (r.length + 1) ≤ n 13 := hl
      refine v_L (L' := [some (.ref (E.o 2)), some (.int (nI 14)), some (.int a), none, none]) (fun _ _ z => z) ?_
      refine v_iload_n G (decAt dd_BT_folded 0 rfl) rfl ?_
      refine v_bipush G 8 (decAt dd_BT_folded 1 rfl) (by decide) ?_
      refine v_icmp_eq G 12 (decAt dd_BT_folded 2 rfl) (by decide) (fun c3 => absurd c3 (by decide)) (fun _ => ?_)
      refine v_iload_n G (decAt dd_BT_folded 3 rfl) rfl ?_
      refine v_bipush G 9 (decAt dd_BT_folded 4 rfl) (by decide) ?_
      refine v_icmp_ne G 67 (decAt dd_BT_folded 5 rfl) (by decide) (fun _ => ?_) (fun c9 => absurd c9 (by decide))
      refine v_iload_n G (decAt dd_BT_folded 40 rfl) rfl ?_
      refine v_bipush G 10 (decAt dd_BT_folded 41 rfl) (by decide) ?_
      refine v_icmp_eq G 79 (decAt dd_BT_folded 42 rfl) (by decide) (fun c70 => absurd c70 (by decide)) (fun _ => ?_)
      refine v_iload_n G (decAt dd_BT_folded 43 rfl) rfl ?_
      refine v_bipush G 11 (decAt dd_BT_folded 44 rfl) (by decide) ?_
      refine v_icmp_ne G 197 (decAt dd_BT_folded 45 rfl) (by decide) (fun _ => ?_) (fun c76 => absurd c76 (by decide))
      refine v_iload_n G (decAt dd_BT_folded 114 rfl) rfl ?_
      refine v_bipush G 14 (decAt dd_BT_folded 115 rfl) (by decide) ?_
      refine v_icmp_eq G 209 (decAt dd_BT_folded 116 rfl) (by decide) (fun _ => ?_) (fun c200 => absurd c200 (by decide))
      refine v_aload_n G (decAt dd_BT_folded 120 rfl) rfl ?_
      refine v_iconst G 2 (decAt dd_BT_folded 121 rfl) (by decide) ?_
      refine v_callVis G (As := [.int (nI 2)]) (decAt dd_BT_folded 122 rfl) k_BT_75 (c_BT_isConstant l hE (τ := (0, y) :: r) (b := 0) (by omega) hm hl hn13 hT) (by decide) rfl rfl rfl (Nat.le_of_ble_eq_true rfl) (by decide) rfl rfl (by decide) ?_
      refine v_ri (y := 1) rfl ?_
      refine v_if_eq G 279 (decAt dd_BT_folded 123 rfl) (by decide) (fun c214 => absurd c214 (by decide)) (fun _ => ?_)
      refine v_aload_n G (decAt dd_BT_folded 124 rfl) rfl ?_
      refine v_geta G (decAt dd_BT_folded 125 rfl) f_BT_15 ?_
      refine v_aload_n G (decAt dd_BT_folded 126 rfl) rfl ?_
      refine v_geti G (decAt dd_BT_folded 127 rfl) f_BT_49 ?_
      refine v_ri (y := (nI (2 * ((0, y) :: r : Cod).length))) hm ?_
      refine v_iconst G 1 (decAt dd_BT_folded 128 rfl) (by decide) ?_
      refine v_isub G (decAt dd_BT_folded 129 rfl) ?_
      refine v_ri (y := (nI (2 * r.length + 1))) (nI_sub (2 * r.length + 1) 1) ?_
      refine v_iald G 13 (2 * r.length + 1) (decAt dd_BT_folded 130 rfl) (by decide) rfl rfl (by omega) ?_
      refine v_ri (y := y) t2 ?_
      refine v_if_eq G 235 (decAt dd_BT_folded 131 rfl) (by decide) (fun c228 => ?_) (fun c228 => ?_)
      · skip
        refine v_iconst G 0 (decAt dd_BT_folded 134 rfl) (by decide) ?_
        refine v_iload_n G (decAt dd_BT_folded 135 rfl) rfl ?_
        refine v_bipush G 15 (decAt dd_BT_folded 136 rfl) (by decide) ?_
        refine v_icmp_ne G 246 (decAt dd_BT_folded 137 rfl) (by decide) (fun _ => ?_) (fun c239 => absurd c239 (by decide))
        refine v_iconst G 0 (decAt dd_BT_folded 140 rfl) (by decide) ?_
        refine v_icmp_ne G 254 (decAt dd_BT_folded 141 rfl) (by decide) (fun c247 => absurd c247 (by decide)) (fun _ => ?_)
        refine v_iconst G 1 (decAt dd_BT_folded 142 rfl) (by decide) ?_
        refine v_goto G 255 (decAt dd_BT_folded 143 rfl) (by decide) ?_
        refine v_istore_3 G (decAt dd_BT_folded 145 rfl) (by decide) rfl ?_
        refine v_aload_n G (decAt dd_BT_folded 146 rfl) rfl ?_
        refine v_dup G (decAt dd_BT_folded 147 rfl) rfl ?_
        refine v_geti G (decAt dd_BT_folded 148 rfl) f_BT_49 ?_
        refine v_ri (y := (nI (2 * ((0, y) :: r : Cod).length))) hm ?_
        refine v_iconst G 2 (decAt dd_BT_folded 149 rfl) (by decide) ?_
        refine v_isub G (decAt dd_BT_folded 150 rfl) ?_
        refine v_ri (y := (nI (2 * r.length))) (nI_sub (2 * r.length) 2) ?_
        refine v_puti G (decAt dd_BT_folded 151 rfl) f_BT_49 rfl rfl rfl ?_
        refine v_iload_n G (decAt dd_BT_folded 152 rfl) rfl ?_
        refine v_if_eq G 277 (decAt dd_BT_folded 153 rfl) (by decide) (fun c267 => absurd c267 (by decide)) (fun _ => ?_)
        refine v_aload_n G (decAt dd_BT_folded 154 rfl) rfl ?_
        refine v_bipush G 13 (decAt dd_BT_folded 155 rfl) (by decide) ?_
        refine v_iload_n G (decAt dd_BT_folded 156 rfl) rfl ?_
        refine v_callVvk G (As := [.int 13, .int a]) (decAt dd_BT_folded 157 rfl) k_BT_71 (c_BT_keep l hE (g := up2 g 2 3 (nI (2 * r.length))) (mm := 2 * r.length) up2_self (by omega)) (by decide) rfl rfl rfl (Nat.le_of_ble_eq_true rfl) (by decide) rfl rfl (by decide) ?_
        refine v_iconst G 1 (decAt dd_BT_folded 158 rfl) (by decide) ?_
        have hff : fold1 ((0, y) :: r) 11 a = some ((10, a) :: r) := if_pos (by first | exact c228 | exact Classical.not_not.mp c228)
        exact v_zret G (decAt dd_BT_folded 159 rfl) rfl rfl ⟨_, by rw [hff]; rfl, by rw [hff]; exact t4.push (n := 10) (by omega), rfl, by rw [hff]; exact up2_up2 _ _ _ _ _, rfl, rfl, rfl⟩
      · skip
        refine v_iconst G 1 (decAt dd_BT_folded 132 rfl) (by decide) ?_
        refine v_goto G 236 (decAt dd_BT_folded 133 rfl) (by decide) ?_
        refine v_iload_n G (decAt dd_BT_folded 135 rfl) rfl ?_
        refine v_bipush G 15 (decAt dd_BT_folded 136 rfl) (by decide) ?_
        refine v_icmp_ne G 246 (decAt dd_BT_folded 137 rfl) (by decide) (fun _ => ?_) (fun c239 => absurd c239 (by decide))
        refine v_iconst G 0 (decAt dd_BT_folded 140 rfl) (by decide) ?_
        refine v_icmp_ne G 254 (decAt dd_BT_folded 141 rfl) (by decide) (fun _ => ?_) (fun c247 => absurd c247 (by decide))
        refine v_iconst G 0 (decAt dd_BT_folded 144 rfl) (by decide) ?_
        refine v_istore_3 G (decAt dd_BT_folded 145 rfl) (by decide) rfl ?_
        refine v_aload_n G (decAt dd_BT_folded 146 rfl) rfl ?_
        refine v_dup G (decAt dd_BT_folded 147 rfl) rfl ?_
        refine v_geti G (decAt dd_BT_folded 148 rfl) f_BT_49 ?_
        refine v_ri (y := (nI (2 * ((0, y) :: r : Cod).length))) hm ?_
        refine v_iconst G 2 (decAt dd_BT_folded 149 rfl) (by decide) ?_
        refine v_isub G (decAt dd_BT_folded 150 rfl) ?_
        refine v_ri (y := (nI (2 * r.length))) (nI_sub (2 * r.length) 2) ?_
        refine v_puti G (decAt dd_BT_folded 151 rfl) f_BT_49 rfl rfl rfl ?_
        refine v_iload_n G (decAt dd_BT_folded 152 rfl) rfl ?_
        refine v_if_eq G 277 (decAt dd_BT_folded 153 rfl) (by decide) (fun _ => ?_) (fun c267 => absurd c267 (by decide))
        refine v_iconst G 1 (decAt dd_BT_folded 158 rfl) (by decide) ?_
        have hff : fold1 ((0, y) :: r) 11 a = some (r) := if_neg c228
        exact v_zret G (decAt dd_BT_folded 159 rfl) rfl rfl ⟨A 13, by rw [hff]; rfl, by rw [hff]; exact t4, rfl, by rw [hff]; rfl, (va_up_id A 13).symm, rfl, rfl⟩
    · skip
      refine v_L (L' := [some (.ref (E.o 2)), some (.int (nI 14)), some (.int a), none, none]) (fun _ _ z => z) ?_
      refine v_iload_n G (decAt dd_BT_folded 0 rfl) rfl ?_
      refine v_bipush G 8 (decAt dd_BT_folded 1 rfl) (by decide) ?_
      refine v_icmp_eq G 12 (decAt dd_BT_folded 2 rfl) (by decide) (fun c3 => absurd c3 (by decide)) (fun _ => ?_)
      refine v_iload_n G (decAt dd_BT_folded 3 rfl) rfl ?_
      refine v_bipush G 9 (decAt dd_BT_folded 4 rfl) (by decide) ?_
      refine v_icmp_ne G 67 (decAt dd_BT_folded 5 rfl) (by decide) (fun _ => ?_) (fun c9 => absurd c9 (by decide))
      refine v_iload_n G (decAt dd_BT_folded 40 rfl) rfl ?_
      refine v_bipush G 10 (decAt dd_BT_folded 41 rfl) (by decide) ?_
      refine v_icmp_eq G 79 (decAt dd_BT_folded 42 rfl) (by decide) (fun c70 => absurd c70 (by decide)) (fun _ => ?_)
      refine v_iload_n G (decAt dd_BT_folded 43 rfl) rfl ?_
      refine v_bipush G 11 (decAt dd_BT_folded 44 rfl) (by decide) ?_
      refine v_icmp_ne G 197 (decAt dd_BT_folded 45 rfl) (by decide) (fun _ => ?_) (fun c76 => absurd c76 (by decide))
      refine v_iload_n G (decAt dd_BT_folded 114 rfl) rfl ?_
      refine v_bipush G 14 (decAt dd_BT_folded 115 rfl) (by decide) ?_
      refine v_icmp_eq G 209 (decAt dd_BT_folded 116 rfl) (by decide) (fun _ => ?_) (fun c200 => absurd c200 (by decide))
      refine v_aload_n G (decAt dd_BT_folded 120 rfl) rfl ?_
      refine v_iconst G 2 (decAt dd_BT_folded 121 rfl) (by decide) ?_
      refine v_callVis G (As := [.int (nI 2)]) (decAt dd_BT_folded 122 rfl) k_BT_75 (c_BT_isConstant l hE (τ := (N + 1, y) :: r) (b := 0) (by omega) hm hl hn13 hT) (by decide) rfl rfl rfl (Nat.le_of_ble_eq_true rfl) (by decide) rfl rfl (by decide) ?_
      refine v_ri (y := 0) rfl ?_
      refine v_if_eq G 279 (decAt dd_BT_folded 123 rfl) (by decide) (fun _ => ?_) (fun c214 => absurd c214 (by decide))
      refine v_iload_n G (decAt dd_BT_folded 160 rfl) rfl ?_
      refine v_bipush G 19 (decAt dd_BT_folded 161 rfl) (by decide) ?_
      refine v_icmp_ne G 365 (decAt dd_BT_folded 162 rfl) (by decide) (fun _ => ?_) (fun c282 => absurd c282 (by decide))
      refine v_iconst G 0 (decAt dd_BT_folded 210 rfl) (by decide) ?_
      exact v_zret G (decAt dd_BT_folded 211 rfl) rfl rfl ⟨A 13, rfl, hT, rfl, (up2_id hm).symm, (va_up_id A 13).symm, rfl, rfl⟩
  · skip
    rcases τ with _ | ⟨⟨_ | N, y⟩, r⟩
    · skip
      refine v_L (L' := [some (.ref (E.o 2)), some (.int (nI 15)), some (.int a), none, none]) (fun _ _ z => z) ?_
      refine v_iload_n G (decAt dd_BT_folded 0 rfl) rfl ?_
      refine v_bipush G 8 (decAt dd_BT_folded 1 rfl) (by decide) ?_
      refine v_icmp_eq G 12 (decAt dd_BT_folded 2 rfl) (by decide) (fun c3 => absurd c3 (by decide)) (fun _ => ?_)
      refine v_iload_n G (decAt dd_BT_folded 3 rfl) rfl ?_
      refine v_bipush G 9 (decAt dd_BT_folded 4 rfl) (by decide) ?_
      refine v_icmp_ne G 67 (decAt dd_BT_folded 5 rfl) (by decide) (fun _ => ?_) (fun c9 => absurd c9 (by decide))
      refine v_iload_n G (decAt dd_BT_folded 40 rfl) rfl ?_
      refine v_bipush G 10 (decAt dd_BT_folded 41 rfl) (by decide) ?_
      refine v_icmp_eq G 79 (decAt dd_BT_folded 42 rfl) (by decide) (fun c70 => absurd c70 (by decide)) (fun _ => ?_)
      refine v_iload_n G (decAt dd_BT_folded 43 rfl) rfl ?_
      refine v_bipush G 11 (decAt dd_BT_folded 44 rfl) (by decide) ?_
      refine v_icmp_ne G 197 (decAt dd_BT_folded 45 rfl) (by decide) (fun _ => ?_) (fun c76 => absurd c76 (by decide))
      refine v_iload_n G (decAt dd_BT_folded 114 rfl) rfl ?_
      refine v_bipush G 14 (decAt dd_BT_folded 115 rfl) (by decide) ?_
      refine v_icmp_eq G 209 (decAt dd_BT_folded 116 rfl) (by decide) (fun c200 => absurd c200 (by decide)) (fun _ => ?_)
      refine v_iload_n G (decAt dd_BT_folded 117 rfl) rfl ?_
      refine v_bipush G 15 (decAt dd_BT_folded 118 rfl) (by decide) ?_
      refine v_icmp_ne G 279 (decAt dd_BT_folded 119 rfl) (by decide) (fun c206 => absurd c206 (by decide)) (fun _ => ?_)
      refine v_aload_n G (decAt dd_BT_folded 120 rfl) rfl ?_
      refine v_iconst G 2 (decAt dd_BT_folded 121 rfl) (by decide) ?_
      refine v_callVis G (As := [.int (nI 2)]) (decAt dd_BT_folded 122 rfl) k_BT_75 (c_BT_isConstant l hE (τ := ([] : Cod)) (b := 0) (by omega) hm hl hn13 hT) (by decide) rfl rfl rfl (Nat.le_of_ble_eq_true rfl) (by decide) rfl rfl (by decide) ?_
      refine v_ri (y := 0) rfl ?_
      refine v_if_eq G 279 (decAt dd_BT_folded 123 rfl) (by decide) (fun _ => ?_) (fun c214 => absurd c214 (by decide))
      refine v_iload_n G (decAt dd_BT_folded 160 rfl) rfl ?_
      refine v_bipush G 19 (decAt dd_BT_folded 161 rfl) (by decide) ?_
      refine v_icmp_ne G 365 (decAt dd_BT_folded 162 rfl) (by decide) (fun _ => ?_) (fun c282 => absurd c282 (by decide))
      refine v_iconst G 0 (decAt dd_BT_folded 210 rfl) (by decide) ?_
      exact v_zret G (decAt dd_BT_folded 211 rfl) rfl rfl ⟨A 13, rfl, hT, rfl, (up2_id hm).symm, (va_up_id A 13).symm, rfl, rfl⟩
    · skip
      obtain ⟨t1, t2, t3, t4⟩ := id hT
      have hl2 : 2 * (r.length + 1) ≤ n 13 := hl
      refine v_L (L' := [some (.ref (E.o 2)), some (.int (nI 15)), some (.int a), none, none]) (fun _ _ z => z) ?_
      refine v_iload_n G (decAt dd_BT_folded 0 rfl) rfl ?_
      refine v_bipush G 8 (decAt dd_BT_folded 1 rfl) (by decide) ?_
      refine v_icmp_eq G 12 (decAt dd_BT_folded 2 rfl) (by decide) (fun c3 => absurd c3 (by decide)) (fun _ => ?_)
      refine v_iload_n G (decAt dd_BT_folded 3 rfl) rfl ?_
      refine v_bipush G 9 (decAt dd_BT_folded 4 rfl) (by decide) ?_
      refine v_icmp_ne G 67 (decAt dd_BT_folded 5 rfl) (by decide) (fun _ => ?_) (fun c9 => absurd c9 (by decide))
      refine v_iload_n G (decAt dd_BT_folded 40 rfl) rfl ?_
      refine v_bipush G 10 (decAt dd_BT_folded 41 rfl) (by decide) ?_
      refine v_icmp_eq G 79 (decAt dd_BT_folded 42 rfl) (by decide) (fun c70 => absurd c70 (by decide)) (fun _ => ?_)
      refine v_iload_n G (decAt dd_BT_folded 43 rfl) rfl ?_
      refine v_bipush G 11 (decAt dd_BT_folded 44 rfl) (by decide) ?_
      refine v_icmp_ne G 197 (decAt dd_BT_folded 45 rfl) (by decide) (fun _ => ?_) (fun c76 => absurd c76 (by decide))
      refine v_iload_n G (decAt dd_BT_folded 114 rfl) rfl ?_
      refine v_bipush G 14 (decAt dd_BT_folded 115 rfl) (by decide) ?_
      refine v_icmp_eq G 209 (decAt dd_BT_folded 116 rfl) (by decide) (fun c200 => absurd c200 (by decide)) (fun _ => ?_)
      refine v_iload_n G (decAt dd_BT_folded 117 rfl) rfl ?_
      refine v_bipush G 15 (decAt dd_BT_folded 118 rfl) (by decide) ?_
      refine v_icmp_ne G 279 (decAt dd_BT_folded 119 rfl) (by decide) (fun c206 => absurd c206 (by decide)) (fun _ => ?_)
      refine v_aload_n G (decAt dd_BT_folded 120 rfl) rfl ?_
      refine v_iconst G 2 (decAt dd_BT_folded 121 rfl) (by decide) ?_
      refine v_callVis G (As := [.int (nI 2)]) (decAt dd_BT_folded 122 rfl) k_BT_75 (c_BT_isConstant l hE (τ := (0, y) :: r) (b := 0) (by omega) hm hl hn13 hT) (by decide) rfl rfl rfl (Nat.le_of_ble_eq_true rfl) (by decide) rfl rfl (by decide) ?_
      refine v_ri (y := 1) rfl ?_
      refine v_if_eq G 279 (decAt dd_BT_folded 123 rfl) (by decide) (fun c214 => absurd c214 (by decide)) (fun _ => ?_)
      refine v_aload_n G (decAt dd_BT_folded 124 rfl) rfl ?_
      refine v_geta G (decAt dd_BT_folded 125 rfl) f_BT_15 ?_
      refine v_aload_n G (decAt dd_BT_folded 126 rfl) rfl ?_
      refine v_geti G (decAt dd_BT_folded 127 rfl) f_BT_49 ?_
      refine v_ri (y := (nI (2 * ((0, y) :: r : Cod).length))) hm ?_
      refine v_iconst G 1 (decAt dd_BT_folded 128 rfl) (by decide) ?_
      refine v_isub G (decAt dd_BT_folded 129 rfl) ?_
      refine v_ri (y := (nI (2 * r.length + 1))) (nI_sub (2 * r.length + 1) 1) ?_
      refine v_iald G 13 (2 * r.length + 1) (decAt dd_BT_folded 130 rfl) (by decide) rfl rfl (by omega) ?_
      refine v_ri (y := y) t2 ?_
      refine v_if_eq G 235 (decAt dd_BT_folded 131 rfl) (by decide) (fun c228 => ?_) (fun c228 => ?_)
      · skip
        refine v_iconst G 0 (decAt dd_BT_folded 134 rfl) (by decide) ?_
        refine v_iload_n G (decAt dd_BT_folded 135 rfl) rfl ?_
        refine v_bipush G 15 (decAt dd_BT_folded 136 rfl) (by decide) ?_
        refine v_icmp_ne G 246 (decAt dd_BT_folded 137 rfl) (by decide) (fun c239 => absurd c239 (by decide)) (fun _ => ?_)
        refine v_iconst G 1 (decAt dd_BT_folded 138 rfl) (by decide) ?_
        refine v_goto G 247 (decAt dd_BT_folded 139 rfl) (by decide) ?_
        refine v_icmp_ne G 254 (decAt dd_BT_folded 141 rfl) (by decide) (fun _ => ?_) (fun c247 => absurd c247 (by decide))
        refine v_iconst G 0 (decAt dd_BT_folded 144 rfl) (by decide) ?_
        refine v_istore_3 G (decAt dd_BT_folded 145 rfl) (by decide) rfl ?_
        refine v_aload_n G (decAt dd_BT_folded 146 rfl) rfl ?_
        refine v_dup G (decAt dd_BT_folded 147 rfl) rfl ?_
        refine v_geti G (decAt dd_BT_folded 148 rfl) f_BT_49 ?_
        refine v_ri (y := (nI (2 * ((0, y) :: r : Cod).length))) hm ?_
        refine v_iconst G 2 (decAt dd_BT_folded 149 rfl) (by decide) ?_
        refine v_isub G (decAt dd_BT_folded 150 rfl) ?_
        refine v_ri (y := (nI (2 * r.length))) (nI_sub (2 * r.length) 2) ?_
        refine v_puti G (decAt dd_BT_folded 151 rfl) f_BT_49 rfl rfl rfl ?_
        refine v_iload_n G (decAt dd_BT_folded 152 rfl) rfl ?_
        refine v_if_eq G 277 (decAt dd_BT_folded 153 rfl) (by decide) (fun _ => ?_) (fun c267 => absurd c267 (by decide))
        refine v_iconst G 1 (decAt dd_BT_folded 158 rfl) (by decide) ?_
        have hff : fold1 ((0, y) :: r) 12 a = some (r) := if_pos (by first | exact c228 | exact Classical.not_not.mp c228)
        exact v_zret G (decAt dd_BT_folded 159 rfl) rfl rfl ⟨A 13, by rw [hff]; rfl, by rw [hff]; exact t4, rfl, by rw [hff]; rfl, (va_up_id A 13).symm, rfl, rfl⟩
      · skip
        refine v_iconst G 1 (decAt dd_BT_folded 132 rfl) (by decide) ?_
        refine v_goto G 236 (decAt dd_BT_folded 133 rfl) (by decide) ?_
        refine v_iload_n G (decAt dd_BT_folded 135 rfl) rfl ?_
        refine v_bipush G 15 (decAt dd_BT_folded 136 rfl) (by decide) ?_
        refine v_icmp_ne G 246 (decAt dd_BT_folded 137 rfl) (by decide) (fun c239 => absurd c239 (by decide)) (fun _ => ?_)
        refine v_iconst G 1 (decAt dd_BT_folded 138 rfl) (by decide) ?_
        refine v_goto G 247 (decAt dd_BT_folded 139 rfl) (by decide) ?_
        refine v_icmp_ne G 254 (decAt dd_BT_folded 141 rfl) (by decide) (fun c247 => absurd c247 (by decide)) (fun _ => ?_)
        refine v_iconst G 1 (decAt dd_BT_folded 142 rfl) (by decide) ?_
        refine v_goto G 255 (decAt dd_BT_folded 143 rfl) (by decide) ?_
        refine v_istore_3 G (decAt dd_BT_folded 145 rfl) (by decide) rfl ?_
        refine v_aload_n G (decAt dd_BT_folded 146 rfl) rfl ?_
        refine v_dup G (decAt dd_BT_folded 147 rfl) rfl ?_
        refine v_geti G (decAt dd_BT_folded 148 rfl) f_BT_49 ?_
        refine v_ri (y := (nI (2 * ((0, y) :: r : Cod).length))) hm ?_
        refine v_iconst G 2 (decAt dd_BT_folded 149 rfl) (by decide) ?_
        refine v_isub G (decAt dd_BT_folded 150 rfl) ?_
        refine v_ri (y := (nI (2 * r.length))) (nI_sub (2 * r.length) 2) ?_
        refine v_puti G (decAt dd_BT_folded 151 rfl) f_BT_49 rfl rfl rfl ?_
        refine v_iload_n G (decAt dd_BT_folded 152 rfl) rfl ?_
        refine v_if_eq G 277 (decAt dd_BT_folded 153 rfl) (by decide) (fun c267 => absurd c267 (by decide)) (fun _ => ?_)
        refine v_aload_n G (decAt dd_BT_folded 154 rfl) rfl ?_
        refine v_bipush G 13 (decAt dd_BT_folded 155 rfl) (by decide) ?_
        refine v_iload_n G (decAt dd_BT_folded 156 rfl) rfl ?_
        refine v_callVvk G (As := [.int 13, .int a]) (decAt dd_BT_folded 157 rfl) k_BT_71 (c_BT_keep l hE (g := up2 g 2 3 (nI (2 * r.length))) (mm := 2 * r.length) up2_self (by omega)) (by decide) rfl rfl rfl (Nat.le_of_ble_eq_true rfl) (by decide) rfl rfl (by decide) ?_
        refine v_iconst G 1 (decAt dd_BT_folded 158 rfl) (by decide) ?_
        have hff : fold1 ((0, y) :: r) 12 a = some ((10, a) :: r) := if_neg c228
        exact v_zret G (decAt dd_BT_folded 159 rfl) rfl rfl ⟨_, by rw [hff]; rfl, by rw [hff]; exact t4.push (n := 10) (by omega), rfl, by rw [hff]; exact up2_up2 _ _ _ _ _, rfl, rfl, rfl⟩
    · skip
      refine v_L (L' := [some (.ref (E.o 2)), some (.int (nI 15)), some (.int a), none, none]) (fun _ _ z => z) ?_
      refine v_iload_n G (decAt dd_BT_folded 0 rfl) rfl ?_
      refine v_bipush G 8 (decAt dd_BT_folded 1 rfl) (by decide) ?_
      refine v_icmp_eq G 12 (decAt dd_BT_folded 2 rfl) (by decide) (fun c3 => absurd c3 (by decide)) (fun _ => ?_)
      refine v_iload_n G (decAt dd_BT_folded 3 rfl) rfl ?_
      refine v_bipush G 9 (decAt dd_BT_folded 4 rfl) (by decide) ?_
      refine v_icmp_ne G 67 (decAt dd_BT_folded 5 rfl) (by decide) (fun _ => ?_) (fun c9 => absurd c9 (by decide))
      refine v_iload_n G (decAt dd_BT_folded 40 rfl) rfl ?_
      refine v_bipush G 10 (decAt dd_BT_folded 41 rfl) (by decide) ?_
      refine v_icmp_eq G 79 (decAt dd_BT_folded 42 rfl) (by decide) (fun c70 => absurd c70 (by decide)) (fun _ => ?_)
      refine v_iload_n G (decAt dd_BT_folded 43 rfl) rfl ?_
      refine v_bipush G 11 (decAt dd_BT_folded 44 rfl) (by decide) ?_
      refine v_icmp_ne G 197 (decAt dd_BT_folded 45 rfl) (by decide) (fun _ => ?_) (fun c76 => absurd c76 (by decide))
      refine v_iload_n G (decAt dd_BT_folded 114 rfl) rfl ?_
      refine v_bipush G 14 (decAt dd_BT_folded 115 rfl) (by decide) ?_
      refine v_icmp_eq G 209 (decAt dd_BT_folded 116 rfl) (by decide) (fun c200 => absurd c200 (by decide)) (fun _ => ?_)
      refine v_iload_n G (decAt dd_BT_folded 117 rfl) rfl ?_
      refine v_bipush G 15 (decAt dd_BT_folded 118 rfl) (by decide) ?_
      refine v_icmp_ne G 279 (decAt dd_BT_folded 119 rfl) (by decide) (fun c206 => absurd c206 (by decide)) (fun _ => ?_)
      refine v_aload_n G (decAt dd_BT_folded 120 rfl) rfl ?_
      refine v_iconst G 2 (decAt dd_BT_folded 121 rfl) (by decide) ?_
      refine v_callVis G (As := [.int (nI 2)]) (decAt dd_BT_folded 122 rfl) k_BT_75 (c_BT_isConstant l hE (τ := (N + 1, y) :: r) (b := 0) (by omega) hm hl hn13 hT) (by decide) rfl rfl rfl (Nat.le_of_ble_eq_true rfl) (by decide) rfl rfl (by decide) ?_
      refine v_ri (y := 0) rfl ?_
      refine v_if_eq G 279 (decAt dd_BT_folded 123 rfl) (by decide) (fun _ => ?_) (fun c214 => absurd c214 (by decide))
      refine v_iload_n G (decAt dd_BT_folded 160 rfl) rfl ?_
      refine v_bipush G 19 (decAt dd_BT_folded 161 rfl) (by decide) ?_
      refine v_icmp_ne G 365 (decAt dd_BT_folded 162 rfl) (by decide) (fun _ => ?_) (fun c282 => absurd c282 (by decide))
      refine v_iconst G 0 (decAt dd_BT_folded 210 rfl) (by decide) ?_
      exact v_zret G (decAt dd_BT_folded 211 rfl) rfl rfl ⟨A 13, rfl, hT, rfl, (up2_id hm).symm, (va_up_id A 13).symm, rfl, rfl⟩
  · skip
    refine v_L (L' := [some (.ref (E.o 2)), some (.int (nI 22)), some (.int a), none, none]) (fun _ _ z => z) ?_
    refine v_iload_n G (decAt dd_BT_folded 0 rfl) rfl ?_
    refine v_bipush G 8 (decAt dd_BT_folded 1 rfl) (by decide) ?_
    refine v_icmp_eq G 12 (decAt dd_BT_folded 2 rfl) (by decide) (fun c3 => absurd c3 (by decide)) (fun _ => ?_)
    refine v_iload_n G (decAt dd_BT_folded 3 rfl) rfl ?_
    refine v_bipush G 9 (decAt dd_BT_folded 4 rfl) (by decide) ?_
    refine v_icmp_ne G 67 (decAt dd_BT_folded 5 rfl) (by decide) (fun _ => ?_) (fun c9 => absurd c9 (by decide))
    refine v_iload_n G (decAt dd_BT_folded 40 rfl) rfl ?_
    refine v_bipush G 10 (decAt dd_BT_folded 41 rfl) (by decide) ?_
    refine v_icmp_eq G 79 (decAt dd_BT_folded 42 rfl) (by decide) (fun c70 => absurd c70 (by decide)) (fun _ => ?_)
    refine v_iload_n G (decAt dd_BT_folded 43 rfl) rfl ?_
    refine v_bipush G 11 (decAt dd_BT_folded 44 rfl) (by decide) ?_
    refine v_icmp_ne G 197 (decAt dd_BT_folded 45 rfl) (by decide) (fun _ => ?_) (fun c76 => absurd c76 (by decide))
    refine v_iload_n G (decAt dd_BT_folded 114 rfl) rfl ?_
    refine v_bipush G 14 (decAt dd_BT_folded 115 rfl) (by decide) ?_
    refine v_icmp_eq G 209 (decAt dd_BT_folded 116 rfl) (by decide) (fun c200 => absurd c200 (by decide)) (fun _ => ?_)
    refine v_iload_n G (decAt dd_BT_folded 117 rfl) rfl ?_
    refine v_bipush G 15 (decAt dd_BT_folded 118 rfl) (by decide) ?_
    refine v_icmp_ne G 279 (decAt dd_BT_folded 119 rfl) (by decide) (fun _ => ?_) (fun c206 => absurd c206 (by decide))
    refine v_iload_n G (decAt dd_BT_folded 160 rfl) rfl ?_
    refine v_bipush G 19 (decAt dd_BT_folded 161 rfl) (by decide) ?_
    refine v_icmp_ne G 365 (decAt dd_BT_folded 162 rfl) (by decide) (fun _ => ?_) (fun c282 => absurd c282 (by decide))
    refine v_iconst G 0 (decAt dd_BT_folded 210 rfl) (by decide) ?_
    exact v_zret G (decAt dd_BT_folded 211 rfl) rfl rfl ⟨A 13, rfl, hT, rfl, (up2_id hm).symm, (va_up_id A 13).symm, rfl, rfl⟩
  · skip
    rcases τ with _ | ⟨⟨_ | _ | N, y⟩, r⟩
    · skip
      refine v_L (L' := [some (.ref (E.o 2)), some (.int (nI 19)), some (.int a), none, none]) (fun _ _ z => z) ?_
      refine v_iload_n G (decAt dd_BT_folded 0 rfl) rfl ?_
      refine v_bipush G 8 (decAt dd_BT_folded 1 rfl) (by decide) ?_
      refine v_icmp_eq G 12 (decAt dd_BT_folded 2 rfl) (by decide) (fun c3 => absurd c3 (by decide)) (fun _ => ?_)
      refine v_iload_n G (decAt dd_BT_folded 3 rfl) rfl ?_
      refine v_bipush G 9 (decAt dd_BT_folded 4 rfl) (by decide) ?_
      refine v_icmp_ne G 67 (decAt dd_BT_folded 5 rfl) (by decide) (fun _ => ?_) (fun c9 => absurd c9 (by decide))
      refine v_iload_n G (decAt dd_BT_folded 40 rfl) rfl ?_
      refine v_bipush G 10 (decAt dd_BT_folded 41 rfl) (by decide) ?_
      refine v_icmp_eq G 79 (decAt dd_BT_folded 42 rfl) (by decide) (fun c70 => absurd c70 (by decide)) (fun _ => ?_)
      refine v_iload_n G (decAt dd_BT_folded 43 rfl) rfl ?_
      refine v_bipush G 11 (decAt dd_BT_folded 44 rfl) (by decide) ?_
      refine v_icmp_ne G 197 (decAt dd_BT_folded 45 rfl) (by decide) (fun _ => ?_) (fun c76 => absurd c76 (by decide))
      refine v_iload_n G (decAt dd_BT_folded 114 rfl) rfl ?_
      refine v_bipush G 14 (decAt dd_BT_folded 115 rfl) (by decide) ?_
      refine v_icmp_eq G 209 (decAt dd_BT_folded 116 rfl) (by decide) (fun c200 => absurd c200 (by decide)) (fun _ => ?_)
      refine v_iload_n G (decAt dd_BT_folded 117 rfl) rfl ?_
      refine v_bipush G 15 (decAt dd_BT_folded 118 rfl) (by decide) ?_
      refine v_icmp_ne G 279 (decAt dd_BT_folded 119 rfl) (by decide) (fun _ => ?_) (fun c206 => absurd c206 (by decide))
      refine v_iload_n G (decAt dd_BT_folded 160 rfl) rfl ?_
      refine v_bipush G 19 (decAt dd_BT_folded 161 rfl) (by decide) ?_
      refine v_icmp_ne G 365 (decAt dd_BT_folded 162 rfl) (by decide) (fun c282 => absurd c282 (by decide)) (fun _ => ?_)
      refine v_aload_n G (decAt dd_BT_folded 163 rfl) rfl ?_
      refine v_geti G (decAt dd_BT_folded 164 rfl) f_BT_49 ?_
      refine v_ri (y := (nI 0)) hm ?_
      refine v_iconst G 2 (decAt dd_BT_folded 165 rfl) (by decide) ?_
      refine v_icmp_lt G 365 (decAt dd_BT_folded 166 rfl) (by decide) (fun _ => ?_) (fun c290 => absurd c290 (by decide))
      refine v_iconst G 0 (decAt dd_BT_folded 210 rfl) (by decide) ?_
      exact v_zret G (decAt dd_BT_folded 211 rfl) rfl rfl ⟨A 13, rfl, hT, rfl, (up2_id hm).symm, (va_up_id A 13).symm, rfl, rfl⟩
    · skip
      obtain ⟨t1, t2, t3, t4⟩ := id hT
      have hl2 : 2 * (r.length + 1) ≤ n 13 := hl
      refine v_L (L' := [some (.ref (E.o 2)), some (.int (nI 19)), some (.int a), none, none]) (fun _ _ z => z) ?_
      refine v_iload_n G (decAt dd_BT_folded 0 rfl) rfl ?_
      refine v_bipush G 8 (decAt dd_BT_folded 1 rfl) (by decide) ?_
      refine v_icmp_eq G 12 (decAt dd_BT_folded 2 rfl) (by decide) (fun c3 => absurd c3 (by decide)) (fun _ => ?_)
      refine v_iload_n G (decAt dd_BT_folded 3 rfl) rfl ?_
      refine v_bipush G 9 (decAt dd_BT_folded 4 rfl) (by decide) ?_
      refine v_icmp_ne G 67 (decAt dd_BT_folded 5 rfl) (by decide) (fun _ => ?_) (fun c9 => absurd c9 (by decide))
      refine v_iload_n G (decAt dd_BT_folded 40 rfl) rfl ?_
      refine v_bipush G 10 (decAt dd_BT_folded 41 rfl) (by decide) ?_
      refine v_icmp_eq G 79 (decAt dd_BT_folded 42 rfl) (by decide) (fun c70 => absurd c70 (by decide)) (fun _ => ?_)
      refine v_iload_n G (decAt dd_BT_folded 43 rfl) rfl ?_
      refine v_bipush G 11 (decAt dd_BT_folded 44 rfl) (by decide) ?_
      refine v_icmp_ne G 197 (decAt dd_BT_folded 45 rfl) (by decide) (fun _ => ?_) (fun c76 => absurd c76 (by decide))
      refine v_iload_n G (decAt dd_BT_folded 114 rfl) rfl ?_
      refine v_bipush G 14 (decAt dd_BT_folded 115 rfl) (by decide) ?_
      refine v_icmp_eq G 209 (decAt dd_BT_folded 116 rfl) (by decide) (fun c200 => absurd c200 (by decide)) (fun _ => ?_)
      refine v_iload_n G (decAt dd_BT_folded 117 rfl) rfl ?_
      refine v_bipush G 15 (decAt dd_BT_folded 118 rfl) (by decide) ?_
      refine v_icmp_ne G 279 (decAt dd_BT_folded 119 rfl) (by decide) (fun _ => ?_) (fun c206 => absurd c206 (by decide))
      refine v_iload_n G (decAt dd_BT_folded 160 rfl) rfl ?_
      refine v_bipush G 19 (decAt dd_BT_folded 161 rfl) (by decide) ?_
      refine v_icmp_ne G 365 (decAt dd_BT_folded 162 rfl) (by decide) (fun c282 => absurd c282 (by decide)) (fun _ => ?_)
      refine v_aload_n G (decAt dd_BT_folded 163 rfl) rfl ?_
      refine v_geti G (decAt dd_BT_folded 164 rfl) f_BT_49 ?_
      refine v_ri (y := (nI (2 * ((0, y) :: r : Cod).length))) hm ?_
      refine v_iconst G 2 (decAt dd_BT_folded 165 rfl) (by decide) ?_
      refine v_icmp_lt G 365 (decAt dd_BT_folded 166 rfl) (by decide) (fun c290 => ?_) (fun c290 => ?_)
      · skip
        exact absurd c290 (nI_nlt (a := 2 * (r.length + 1)) (b := 2) (by omega) (by omega))
      · skip
        refine v_aload_n G (decAt dd_BT_folded 167 rfl) rfl ?_
        refine v_geta G (decAt dd_BT_folded 168 rfl) f_BT_15 ?_
        refine v_aload_n G (decAt dd_BT_folded 169 rfl) rfl ?_
        refine v_geti G (decAt dd_BT_folded 170 rfl) f_BT_49 ?_
        refine v_ri (y := (nI (2 * ((0, y) :: r : Cod).length))) hm ?_
        refine v_iconst G 2 (decAt dd_BT_folded 171 rfl) (by decide) ?_
        refine v_isub G (decAt dd_BT_folded 172 rfl) ?_
        refine v_ri (y := (nI (2 * r.length))) (nI_sub (2 * r.length) 2) ?_
        refine v_iald G 13 (2 * r.length) (decAt dd_BT_folded 173 rfl) (by decide) rfl rfl (by omega) ?_
        refine v_ri (y := 0) t1 ?_
        refine v_if_eq G 353 (decAt dd_BT_folded 174 rfl) (by decide) (fun _ => ?_) (fun c304 => absurd c304 (by decide))
        refine v_aload_n G (decAt dd_BT_folded 202 rfl) rfl ?_
        refine v_dup G (decAt dd_BT_folded 203 rfl) rfl ?_
        refine v_geti G (decAt dd_BT_folded 204 rfl) f_BT_49 ?_
        refine v_ri (y := (nI (2 * ((0, y) :: r : Cod).length))) hm ?_
        refine v_iconst G 2 (decAt dd_BT_folded 205 rfl) (by decide) ?_
        refine v_isub G (decAt dd_BT_folded 206 rfl) ?_
        refine v_ri (y := (nI (2 * r.length))) (nI_sub (2 * r.length) 2) ?_
        refine v_puti G (decAt dd_BT_folded 207 rfl) f_BT_49 rfl rfl rfl ?_
        refine v_iconst G 1 (decAt dd_BT_folded 208 rfl) (by decide) ?_
        exact v_zret G (decAt dd_BT_folded 209 rfl) rfl rfl ⟨A 13, rfl, t4, rfl, rfl, (va_up_id A 13).symm, rfl, rfl⟩
    · skip
      obtain ⟨t1, t2, t3, t4⟩ := id hT
      have hl2 : 2 * (r.length + 1) ≤ n 13 := hl
      refine v_L (L' := [some (.ref (E.o 2)), some (.int (nI 19)), some (.int a), none, none]) (fun _ _ z => z) ?_
      refine v_iload_n G (decAt dd_BT_folded 0 rfl) rfl ?_
      refine v_bipush G 8 (decAt dd_BT_folded 1 rfl) (by decide) ?_
      refine v_icmp_eq G 12 (decAt dd_BT_folded 2 rfl) (by decide) (fun c3 => absurd c3 (by decide)) (fun _ => ?_)
      refine v_iload_n G (decAt dd_BT_folded 3 rfl) rfl ?_
      refine v_bipush G 9 (decAt dd_BT_folded 4 rfl) (by decide) ?_
      refine v_icmp_ne G 67 (decAt dd_BT_folded 5 rfl) (by decide) (fun _ => ?_) (fun c9 => absurd c9 (by decide))
      refine v_iload_n G (decAt dd_BT_folded 40 rfl) rfl ?_
      refine v_bipush G 10 (decAt dd_BT_folded 41 rfl) (by decide) ?_
      refine v_icmp_eq G 79 (decAt dd_BT_folded 42 rfl) (by decide) (fun c70 => absurd c70 (by decide)) (fun _ => ?_)
      refine v_iload_n G (decAt dd_BT_folded 43 rfl) rfl ?_
      refine v_bipush G 11 (decAt dd_BT_folded 44 rfl) (by decide) ?_
      refine v_icmp_ne G 197 (decAt dd_BT_folded 45 rfl) (by decide) (fun _ => ?_) (fun c76 => absurd c76 (by decide))
      refine v_iload_n G (decAt dd_BT_folded 114 rfl) rfl ?_
      refine v_bipush G 14 (decAt dd_BT_folded 115 rfl) (by decide) ?_
      refine v_icmp_eq G 209 (decAt dd_BT_folded 116 rfl) (by decide) (fun c200 => absurd c200 (by decide)) (fun _ => ?_)
      refine v_iload_n G (decAt dd_BT_folded 117 rfl) rfl ?_
      refine v_bipush G 15 (decAt dd_BT_folded 118 rfl) (by decide) ?_
      refine v_icmp_ne G 279 (decAt dd_BT_folded 119 rfl) (by decide) (fun _ => ?_) (fun c206 => absurd c206 (by decide))
      refine v_iload_n G (decAt dd_BT_folded 160 rfl) rfl ?_
      refine v_bipush G 19 (decAt dd_BT_folded 161 rfl) (by decide) ?_
      refine v_icmp_ne G 365 (decAt dd_BT_folded 162 rfl) (by decide) (fun c282 => absurd c282 (by decide)) (fun _ => ?_)
      refine v_aload_n G (decAt dd_BT_folded 163 rfl) rfl ?_
      refine v_geti G (decAt dd_BT_folded 164 rfl) f_BT_49 ?_
      refine v_ri (y := (nI (2 * ((1, y) :: r : Cod).length))) hm ?_
      refine v_iconst G 2 (decAt dd_BT_folded 165 rfl) (by decide) ?_
      refine v_icmp_lt G 365 (decAt dd_BT_folded 166 rfl) (by decide) (fun c290 => ?_) (fun c290 => ?_)
      · skip
        exact absurd c290 (nI_nlt (a := 2 * (r.length + 1)) (b := 2) (by omega) (by omega))
      · skip
        refine v_aload_n G (decAt dd_BT_folded 167 rfl) rfl ?_
        refine v_geta G (decAt dd_BT_folded 168 rfl) f_BT_15 ?_
        refine v_aload_n G (decAt dd_BT_folded 169 rfl) rfl ?_
        refine v_geti G (decAt dd_BT_folded 170 rfl) f_BT_49 ?_
        refine v_ri (y := (nI (2 * ((1, y) :: r : Cod).length))) hm ?_
        refine v_iconst G 2 (decAt dd_BT_folded 171 rfl) (by decide) ?_
        refine v_isub G (decAt dd_BT_folded 172 rfl) ?_
        refine v_ri (y := (nI (2 * r.length))) (nI_sub (2 * r.length) 2) ?_
        refine v_iald G 13 (2 * r.length) (decAt dd_BT_folded 173 rfl) (by decide) rfl rfl (by omega) ?_
        refine v_ri (y := 1) t1 ?_
        refine v_if_eq G 353 (decAt dd_BT_folded 174 rfl) (by decide) (fun c304 => absurd c304 (by decide)) (fun _ => ?_)
        refine v_aload_n G (decAt dd_BT_folded 175 rfl) rfl ?_
        refine v_geta G (decAt dd_BT_folded 176 rfl) f_BT_15 ?_
        refine v_aload_n G (decAt dd_BT_folded 177 rfl) rfl ?_
        refine v_geti G (decAt dd_BT_folded 178 rfl) f_BT_49 ?_
        refine v_ri (y := (nI (2 * ((1, y) :: r : Cod).length))) hm ?_
        refine v_iconst G 2 (decAt dd_BT_folded 179 rfl) (by decide) ?_
        refine v_isub G (decAt dd_BT_folded 180 rfl) ?_
        refine v_ri (y := (nI (2 * r.length))) (nI_sub (2 * r.length) 2) ?_
        refine v_iald G 13 (2 * r.length) (decAt dd_BT_folded 181 rfl) (by decide) rfl rfl (by omega) ?_
        refine v_ri (y := 1) t1 ?_
        refine v_iconst G 1 (decAt dd_BT_folded 182 rfl) (by decide) ?_
        refine v_icmp_eq G 353 (decAt dd_BT_folded 183 rfl) (by decide) (fun _ => ?_) (fun c319 => absurd c319 (by decide))
        refine v_aload_n G (decAt dd_BT_folded 202 rfl) rfl ?_
        refine v_dup G (decAt dd_BT_folded 203 rfl) rfl ?_
        refine v_geti G (decAt dd_BT_folded 204 rfl) f_BT_49 ?_
        refine v_ri (y := (nI (2 * ((1, y) :: r : Cod).length))) hm ?_
        refine v_iconst G 2 (decAt dd_BT_folded 205 rfl) (by decide) ?_
        refine v_isub G (decAt dd_BT_folded 206 rfl) ?_
        refine v_ri (y := (nI (2 * r.length))) (nI_sub (2 * r.length) 2) ?_
        refine v_puti G (decAt dd_BT_folded 207 rfl) f_BT_49 rfl rfl rfl ?_
        refine v_iconst G 1 (decAt dd_BT_folded 208 rfl) (by decide) ?_
        exact v_zret G (decAt dd_BT_folded 209 rfl) rfl rfl ⟨A 13, rfl, t4, rfl, rfl, (va_up_id A 13).symm, rfl, rfl⟩
    · skip
      obtain ⟨t1, t2, t3, t4⟩ := id hT
      have hl2 : 2 * (r.length + 1) ≤ n 13 := hl
      refine v_L (L' := [some (.ref (E.o 2)), some (.int (nI 19)), some (.int a), none, none]) (fun _ _ z => z) ?_
      refine v_iload_n G (decAt dd_BT_folded 0 rfl) rfl ?_
      refine v_bipush G 8 (decAt dd_BT_folded 1 rfl) (by decide) ?_
      refine v_icmp_eq G 12 (decAt dd_BT_folded 2 rfl) (by decide) (fun c3 => absurd c3 (by decide)) (fun _ => ?_)
      refine v_iload_n G (decAt dd_BT_folded 3 rfl) rfl ?_
      refine v_bipush G 9 (decAt dd_BT_folded 4 rfl) (by decide) ?_
      refine v_icmp_ne G 67 (decAt dd_BT_folded 5 rfl) (by decide) (fun _ => ?_) (fun c9 => absurd c9 (by decide))
      refine v_iload_n G (decAt dd_BT_folded 40 rfl) rfl ?_
      refine v_bipush G 10 (decAt dd_BT_folded 41 rfl) (by decide) ?_
      refine v_icmp_eq G 79 (decAt dd_BT_folded 42 rfl) (by decide) (fun c70 => absurd c70 (by decide)) (fun _ => ?_)
      refine v_iload_n G (decAt dd_BT_folded 43 rfl) rfl ?_
      refine v_bipush G 11 (decAt dd_BT_folded 44 rfl) (by decide) ?_
      refine v_icmp_ne G 197 (decAt dd_BT_folded 45 rfl) (by decide) (fun _ => ?_) (fun c76 => absurd c76 (by decide))
      refine v_iload_n G (decAt dd_BT_folded 114 rfl) rfl ?_
      refine v_bipush G 14 (decAt dd_BT_folded 115 rfl) (by decide) ?_
      refine v_icmp_eq G 209 (decAt dd_BT_folded 116 rfl) (by decide) (fun c200 => absurd c200 (by decide)) (fun _ => ?_)
      refine v_iload_n G (decAt dd_BT_folded 117 rfl) rfl ?_
      refine v_bipush G 15 (decAt dd_BT_folded 118 rfl) (by decide) ?_
      refine v_icmp_ne G 279 (decAt dd_BT_folded 119 rfl) (by decide) (fun _ => ?_) (fun c206 => absurd c206 (by decide))
      refine v_iload_n G (decAt dd_BT_folded 160 rfl) rfl ?_
      refine v_bipush G 19 (decAt dd_BT_folded 161 rfl) (by decide) ?_
      refine v_icmp_ne G 365 (decAt dd_BT_folded 162 rfl) (by decide) (fun c282 => absurd c282 (by decide)) (fun _ => ?_)
      refine v_aload_n G (decAt dd_BT_folded 163 rfl) rfl ?_
      refine v_geti G (decAt dd_BT_folded 164 rfl) f_BT_49 ?_
      refine v_ri (y := (nI (2 * ((N + 1 + 1, y) :: r : Cod).length))) hm ?_
      refine v_iconst G 2 (decAt dd_BT_folded 165 rfl) (by decide) ?_
      refine v_icmp_lt G 365 (decAt dd_BT_folded 166 rfl) (by decide) (fun c290 => ?_) (fun c290 => ?_)
      · skip
        exact absurd c290 (nI_nlt (a := 2 * (r.length + 1)) (b := 2) (by omega) (by omega))
      · skip
        refine v_aload_n G (decAt dd_BT_folded 167 rfl) rfl ?_
        refine v_geta G (decAt dd_BT_folded 168 rfl) f_BT_15 ?_
        refine v_aload_n G (decAt dd_BT_folded 169 rfl) rfl ?_
        refine v_geti G (decAt dd_BT_folded 170 rfl) f_BT_49 ?_
        refine v_ri (y := (nI (2 * ((N + 1 + 1, y) :: r : Cod).length))) hm ?_
        refine v_iconst G 2 (decAt dd_BT_folded 171 rfl) (by decide) ?_
        refine v_isub G (decAt dd_BT_folded 172 rfl) ?_
        refine v_ri (y := (nI (2 * r.length))) (nI_sub (2 * r.length) 2) ?_
        refine v_iald G 13 (2 * r.length) (decAt dd_BT_folded 173 rfl) (by decide) rfl rfl (by omega) ?_
        refine v_ri (y := stv 2 (N + 1 + 1)) t1 ?_
        refine v_if_eq G 353 (decAt dd_BT_folded 174 rfl) (by decide) (fun c304 => ?_) (fun c304 => ?_)
        · skip
          exact absurd ((stv2_0 _ t3).mp c304) (by omega)
        · skip
          refine v_aload_n G (decAt dd_BT_folded 175 rfl) rfl ?_
          refine v_geta G (decAt dd_BT_folded 176 rfl) f_BT_15 ?_
          refine v_aload_n G (decAt dd_BT_folded 177 rfl) rfl ?_
          refine v_geti G (decAt dd_BT_folded 178 rfl) f_BT_49 ?_
          refine v_ri (y := (nI (2 * ((N + 1 + 1, y) :: r : Cod).length))) hm ?_
          refine v_iconst G 2 (decAt dd_BT_folded 179 rfl) (by decide) ?_
          refine v_isub G (decAt dd_BT_folded 180 rfl) ?_
          refine v_ri (y := (nI (2 * r.length))) (nI_sub (2 * r.length) 2) ?_
          refine v_iald G 13 (2 * r.length) (decAt dd_BT_folded 181 rfl) (by decide) rfl rfl (by omega) ?_
          refine v_ri (y := stv 2 (N + 1 + 1)) t1 ?_
          refine v_iconst G 1 (decAt dd_BT_folded 182 rfl) (by decide) ?_
          refine v_icmp_eq G 353 (decAt dd_BT_folded 183 rfl) (by decide) (fun c319 => ?_) (fun c319 => ?_)
          · skip
            exact absurd ((stv2_1 _ t3).mp c319) (by omega)
          · skip
            refine v_aload_n G (decAt dd_BT_folded 184 rfl) rfl ?_
            refine v_geta G (decAt dd_BT_folded 185 rfl) f_BT_15 ?_
            refine v_aload_n G (decAt dd_BT_folded 186 rfl) rfl ?_
            refine v_geti G (decAt dd_BT_folded 187 rfl) f_BT_49 ?_
            refine v_ri (y := (nI (2 * ((N + 1 + 1, y) :: r : Cod).length))) hm ?_
            refine v_iconst G 2 (decAt dd_BT_folded 188 rfl) (by decide) ?_
            refine v_isub G (decAt dd_BT_folded 189 rfl) ?_
            refine v_ri (y := (nI (2 * r.length))) (nI_sub (2 * r.length) 2) ?_
            refine v_iald G 13 (2 * r.length) (decAt dd_BT_folded 190 rfl) (by decide) rfl rfl (by omega) ?_
            refine v_ri (y := stv 2 (N + 1 + 1)) t1 ?_
            refine v_iconst G 2 (decAt dd_BT_folded 191 rfl) (by decide) ?_
            refine v_icmp_eq G 353 (decAt dd_BT_folded 192 rfl) (by decide) (fun c334 => ?_) (fun c334 => ?_)
            · skip
              exact absurd c334 (stv2_27 _ t3).1
            · skip
              refine v_aload_n G (decAt dd_BT_folded 193 rfl) rfl ?_
              refine v_geta G (decAt dd_BT_folded 194 rfl) f_BT_15 ?_
              refine v_aload_n G (decAt dd_BT_folded 195 rfl) rfl ?_
              refine v_geti G (decAt dd_BT_folded 196 rfl) f_BT_49 ?_
              refine v_ri (y := (nI (2 * ((N + 1 + 1, y) :: r : Cod).length))) hm ?_
              refine v_iconst G 2 (decAt dd_BT_folded 197 rfl) (by decide) ?_
              refine v_isub G (decAt dd_BT_folded 198 rfl) ?_
              refine v_ri (y := (nI (2 * r.length))) (nI_sub (2 * r.length) 2) ?_
              refine v_iald G 13 (2 * r.length) (decAt dd_BT_folded 199 rfl) (by decide) rfl rfl (by omega) ?_
              refine v_ri (y := stv 2 (N + 1 + 1)) t1 ?_
              refine v_bipush G 7 (decAt dd_BT_folded 200 rfl) (by decide) ?_
              refine v_icmp_ne G 365 (decAt dd_BT_folded 201 rfl) (by decide) (fun c350 => ?_) (fun c350 => ?_)
              · skip
                refine v_iconst G 0 (decAt dd_BT_folded 210 rfl) (by decide) ?_
                exact v_zret G (decAt dd_BT_folded 211 rfl) rfl rfl ⟨A 13, rfl, hT, rfl, (up2_id hm).symm, (va_up_id A 13).symm, rfl, rfl⟩
              · skip
                exact absurd (by first | exact c350 | exact Classical.not_not.mp c350) (stv2_27 _ t3).2
  · skip
    refine v_L (L' := [some (.ref (E.o 2)), some (.int (nI 18)), some (.int a), none, none]) (fun _ _ z => z) ?_
    refine v_iload_n G (decAt dd_BT_folded 0 rfl) rfl ?_
    refine v_bipush G 8 (decAt dd_BT_folded 1 rfl) (by decide) ?_
    refine v_icmp_eq G 12 (decAt dd_BT_folded 2 rfl) (by decide) (fun c3 => absurd c3 (by decide)) (fun _ => ?_)
    refine v_iload_n G (decAt dd_BT_folded 3 rfl) rfl ?_
    refine v_bipush G 9 (decAt dd_BT_folded 4 rfl) (by decide) ?_
    refine v_icmp_ne G 67 (decAt dd_BT_folded 5 rfl) (by decide) (fun _ => ?_) (fun c9 => absurd c9 (by decide))
    refine v_iload_n G (decAt dd_BT_folded 40 rfl) rfl ?_
    refine v_bipush G 10 (decAt dd_BT_folded 41 rfl) (by decide) ?_
    refine v_icmp_eq G 79 (decAt dd_BT_folded 42 rfl) (by decide) (fun c70 => absurd c70 (by decide)) (fun _ => ?_)
    refine v_iload_n G (decAt dd_BT_folded 43 rfl) rfl ?_
    refine v_bipush G 11 (decAt dd_BT_folded 44 rfl) (by decide) ?_
    refine v_icmp_ne G 197 (decAt dd_BT_folded 45 rfl) (by decide) (fun _ => ?_) (fun c76 => absurd c76 (by decide))
    refine v_iload_n G (decAt dd_BT_folded 114 rfl) rfl ?_
    refine v_bipush G 14 (decAt dd_BT_folded 115 rfl) (by decide) ?_
    refine v_icmp_eq G 209 (decAt dd_BT_folded 116 rfl) (by decide) (fun c200 => absurd c200 (by decide)) (fun _ => ?_)
    refine v_iload_n G (decAt dd_BT_folded 117 rfl) rfl ?_
    refine v_bipush G 15 (decAt dd_BT_folded 118 rfl) (by decide) ?_
    refine v_icmp_ne G 279 (decAt dd_BT_folded 119 rfl) (by decide) (fun _ => ?_) (fun c206 => absurd c206 (by decide))
    refine v_iload_n G (decAt dd_BT_folded 160 rfl) rfl ?_
    refine v_bipush G 19 (decAt dd_BT_folded 161 rfl) (by decide) ?_
    refine v_icmp_ne G 365 (decAt dd_BT_folded 162 rfl) (by decide) (fun _ => ?_) (fun c282 => absurd c282 (by decide))
    refine v_iconst G 0 (decAt dd_BT_folded 210 rfl) (by decide) ?_
    exact v_zret G (decAt dd_BT_folded 211 rfl) rfl rfl ⟨A 13, rfl, hT, rfl, (up2_id hm).symm, (va_up_id A 13).symm, rfl, rfl⟩
  · skip
    refine v_L (L' := [some (.ref (E.o 2)), some (.int (nI 17)), some (.int a), none, none]) (fun _ _ z => z) ?_
    refine v_iload_n G (decAt dd_BT_folded 0 rfl) rfl ?_
    refine v_bipush G 8 (decAt dd_BT_folded 1 rfl) (by decide) ?_
    refine v_icmp_eq G 12 (decAt dd_BT_folded 2 rfl) (by decide) (fun c3 => absurd c3 (by decide)) (fun _ => ?_)
    refine v_iload_n G (decAt dd_BT_folded 3 rfl) rfl ?_
    refine v_bipush G 9 (decAt dd_BT_folded 4 rfl) (by decide) ?_
    refine v_icmp_ne G 67 (decAt dd_BT_folded 5 rfl) (by decide) (fun _ => ?_) (fun c9 => absurd c9 (by decide))
    refine v_iload_n G (decAt dd_BT_folded 40 rfl) rfl ?_
    refine v_bipush G 10 (decAt dd_BT_folded 41 rfl) (by decide) ?_
    refine v_icmp_eq G 79 (decAt dd_BT_folded 42 rfl) (by decide) (fun c70 => absurd c70 (by decide)) (fun _ => ?_)
    refine v_iload_n G (decAt dd_BT_folded 43 rfl) rfl ?_
    refine v_bipush G 11 (decAt dd_BT_folded 44 rfl) (by decide) ?_
    refine v_icmp_ne G 197 (decAt dd_BT_folded 45 rfl) (by decide) (fun _ => ?_) (fun c76 => absurd c76 (by decide))
    refine v_iload_n G (decAt dd_BT_folded 114 rfl) rfl ?_
    refine v_bipush G 14 (decAt dd_BT_folded 115 rfl) (by decide) ?_
    refine v_icmp_eq G 209 (decAt dd_BT_folded 116 rfl) (by decide) (fun c200 => absurd c200 (by decide)) (fun _ => ?_)
    refine v_iload_n G (decAt dd_BT_folded 117 rfl) rfl ?_
    refine v_bipush G 15 (decAt dd_BT_folded 118 rfl) (by decide) ?_
    refine v_icmp_ne G 279 (decAt dd_BT_folded 119 rfl) (by decide) (fun _ => ?_) (fun c206 => absurd c206 (by decide))
    refine v_iload_n G (decAt dd_BT_folded 160 rfl) rfl ?_
    refine v_bipush G 19 (decAt dd_BT_folded 161 rfl) (by decide) ?_
    refine v_icmp_ne G 365 (decAt dd_BT_folded 162 rfl) (by decide) (fun _ => ?_) (fun c282 => absurd c282 (by decide))
    refine v_iconst G 0 (decAt dd_BT_folded 210 rfl) (by decide) ?_
    exact v_zret G (decAt dd_BT_folded 211 rfl) rfl rfl ⟨A 13, rfl, hT, rfl, (up2_id hm).symm, (va_up_id A 13).symm, rfl, rfl⟩
  · skip
    refine v_L (L' := [some (.ref (E.o 2)), some (.int (nI 20)), some (.int a), none, none]) (fun _ _ z => z) ?_
    refine v_iload_n G (decAt dd_BT_folded 0 rfl) rfl ?_
    refine v_bipush G 8 (decAt dd_BT_folded 1 rfl) (by decide) ?_
    refine v_icmp_eq G 12 (decAt dd_BT_folded 2 rfl) (by decide) (fun c3 => absurd c3 (by decide)) (fun _ => ?_)
    refine v_iload_n G (decAt dd_BT_folded 3 rfl) rfl ?_
    refine v_bipush G 9 (decAt dd_BT_folded 4 rfl) (by decide) ?_
    refine v_icmp_ne G 67 (decAt dd_BT_folded 5 rfl) (by decide) (fun _ => ?_) (fun c9 => absurd c9 (by decide))
    refine v_iload_n G (decAt dd_BT_folded 40 rfl) rfl ?_
    refine v_bipush G 10 (decAt dd_BT_folded 41 rfl) (by decide) ?_
    refine v_icmp_eq G 79 (decAt dd_BT_folded 42 rfl) (by decide) (fun c70 => absurd c70 (by decide)) (fun _ => ?_)
    refine v_iload_n G (decAt dd_BT_folded 43 rfl) rfl ?_
    refine v_bipush G 11 (decAt dd_BT_folded 44 rfl) (by decide) ?_
    refine v_icmp_ne G 197 (decAt dd_BT_folded 45 rfl) (by decide) (fun _ => ?_) (fun c76 => absurd c76 (by decide))
    refine v_iload_n G (decAt dd_BT_folded 114 rfl) rfl ?_
    refine v_bipush G 14 (decAt dd_BT_folded 115 rfl) (by decide) ?_
    refine v_icmp_eq G 209 (decAt dd_BT_folded 116 rfl) (by decide) (fun c200 => absurd c200 (by decide)) (fun _ => ?_)
    refine v_iload_n G (decAt dd_BT_folded 117 rfl) rfl ?_
    refine v_bipush G 15 (decAt dd_BT_folded 118 rfl) (by decide) ?_
    refine v_icmp_ne G 279 (decAt dd_BT_folded 119 rfl) (by decide) (fun _ => ?_) (fun c206 => absurd c206 (by decide))
    refine v_iload_n G (decAt dd_BT_folded 160 rfl) rfl ?_
    refine v_bipush G 19 (decAt dd_BT_folded 161 rfl) (by decide) ?_
    refine v_icmp_ne G 365 (decAt dd_BT_folded 162 rfl) (by decide) (fun _ => ?_) (fun c282 => absurd c282 (by decide))
    refine v_iconst G 0 (decAt dd_BT_folded 210 rfl) (by decide) ?_
    exact v_zret G (decAt dd_BT_folded 211 rfl) rfl rfl ⟨A 13, rfl, hT, rfl, (up2_id hm).symm, (va_up_id A 13).symm, rfl, rfl⟩
  · skip
    refine v_L (L' := [some (.ref (E.o 2)), some (.int (nI 21)), some (.int a), none, none]) (fun _ _ z => z) ?_
    refine v_iload_n G (decAt dd_BT_folded 0 rfl) rfl ?_
    refine v_bipush G 8 (decAt dd_BT_folded 1 rfl) (by decide) ?_
    refine v_icmp_eq G 12 (decAt dd_BT_folded 2 rfl) (by decide) (fun c3 => absurd c3 (by decide)) (fun _ => ?_)
    refine v_iload_n G (decAt dd_BT_folded 3 rfl) rfl ?_
    refine v_bipush G 9 (decAt dd_BT_folded 4 rfl) (by decide) ?_
    refine v_icmp_ne G 67 (decAt dd_BT_folded 5 rfl) (by decide) (fun _ => ?_) (fun c9 => absurd c9 (by decide))
    refine v_iload_n G (decAt dd_BT_folded 40 rfl) rfl ?_
    refine v_bipush G 10 (decAt dd_BT_folded 41 rfl) (by decide) ?_
    refine v_icmp_eq G 79 (decAt dd_BT_folded 42 rfl) (by decide) (fun c70 => absurd c70 (by decide)) (fun _ => ?_)
    refine v_iload_n G (decAt dd_BT_folded 43 rfl) rfl ?_
    refine v_bipush G 11 (decAt dd_BT_folded 44 rfl) (by decide) ?_
    refine v_icmp_ne G 197 (decAt dd_BT_folded 45 rfl) (by decide) (fun _ => ?_) (fun c76 => absurd c76 (by decide))
    refine v_iload_n G (decAt dd_BT_folded 114 rfl) rfl ?_
    refine v_bipush G 14 (decAt dd_BT_folded 115 rfl) (by decide) ?_
    refine v_icmp_eq G 209 (decAt dd_BT_folded 116 rfl) (by decide) (fun c200 => absurd c200 (by decide)) (fun _ => ?_)
    refine v_iload_n G (decAt dd_BT_folded 117 rfl) rfl ?_
    refine v_bipush G 15 (decAt dd_BT_folded 118 rfl) (by decide) ?_
    refine v_icmp_ne G 279 (decAt dd_BT_folded 119 rfl) (by decide) (fun _ => ?_) (fun c206 => absurd c206 (by decide))
    refine v_iload_n G (decAt dd_BT_folded 160 rfl) rfl ?_
    refine v_bipush G 19 (decAt dd_BT_folded 161 rfl) (by decide) ?_
    refine v_icmp_ne G 365 (decAt dd_BT_folded 162 rfl) (by decide) (fun _ => ?_) (fun c282 => absurd c282 (by decide))
    refine v_iconst G 0 (decAt dd_BT_folded 210 rfl) (by decide) ?_
    exact v_zret G (decAt dd_BT_folded 211 rfl) rfl rfl ⟨A 13, rfl, hT, rfl, (up2_id hm).symm, (va_up_id A 13).symm, rfl, rfl⟩
  · skip
    refine v_L (L' := [some (.ref (E.o 2)), some (.int (nI 23)), some (.int a), none, none]) (fun _ _ z => z) ?_
    refine v_iload_n G (decAt dd_BT_folded 0 rfl) rfl ?_
    refine v_bipush G 8 (decAt dd_BT_folded 1 rfl) (by decide) ?_
    refine v_icmp_eq G 12 (decAt dd_BT_folded 2 rfl) (by decide) (fun c3 => absurd c3 (by decide)) (fun _ => ?_)
    refine v_iload_n G (decAt dd_BT_folded 3 rfl) rfl ?_
    refine v_bipush G 9 (decAt dd_BT_folded 4 rfl) (by decide) ?_
    refine v_icmp_ne G 67 (decAt dd_BT_folded 5 rfl) (by decide) (fun _ => ?_) (fun c9 => absurd c9 (by decide))
    refine v_iload_n G (decAt dd_BT_folded 40 rfl) rfl ?_
    refine v_bipush G 10 (decAt dd_BT_folded 41 rfl) (by decide) ?_
    refine v_icmp_eq G 79 (decAt dd_BT_folded 42 rfl) (by decide) (fun c70 => absurd c70 (by decide)) (fun _ => ?_)
    refine v_iload_n G (decAt dd_BT_folded 43 rfl) rfl ?_
    refine v_bipush G 11 (decAt dd_BT_folded 44 rfl) (by decide) ?_
    refine v_icmp_ne G 197 (decAt dd_BT_folded 45 rfl) (by decide) (fun _ => ?_) (fun c76 => absurd c76 (by decide))
    refine v_iload_n G (decAt dd_BT_folded 114 rfl) rfl ?_
    refine v_bipush G 14 (decAt dd_BT_folded 115 rfl) (by decide) ?_
    refine v_icmp_eq G 209 (decAt dd_BT_folded 116 rfl) (by decide) (fun c200 => absurd c200 (by decide)) (fun _ => ?_)
    refine v_iload_n G (decAt dd_BT_folded 117 rfl) rfl ?_
    refine v_bipush G 15 (decAt dd_BT_folded 118 rfl) (by decide) ?_
    refine v_icmp_ne G 279 (decAt dd_BT_folded 119 rfl) (by decide) (fun _ => ?_) (fun c206 => absurd c206 (by decide))
    refine v_iload_n G (decAt dd_BT_folded 160 rfl) rfl ?_
    refine v_bipush G 19 (decAt dd_BT_folded 161 rfl) (by decide) ?_
    refine v_icmp_ne G 365 (decAt dd_BT_folded 162 rfl) (by decide) (fun _ => ?_) (fun c282 => absurd c282 (by decide))
    refine v_iconst G 0 (decAt dd_BT_folded 210 rfl) (by decide) ?_
    exact v_zret G (decAt dd_BT_folded 211 rfl) rfl rfl ⟨A 13, rfl, hT, rfl, (up2_id hm).symm, (va_up_id A 13).symm, rfl, rfl⟩
  · skip
    refine v_L (L' := [some (.ref (E.o 2)), some (.int (nI 24)), some (.int a), none, none]) (fun _ _ z => z) ?_
    refine v_iload_n G (decAt dd_BT_folded 0 rfl) rfl ?_
    refine v_bipush G 8 (decAt dd_BT_folded 1 rfl) (by decide) ?_
    refine v_icmp_eq G 12 (decAt dd_BT_folded 2 rfl) (by decide) (fun c3 => absurd c3 (by decide)) (fun _ => ?_)
    refine v_iload_n G (decAt dd_BT_folded 3 rfl) rfl ?_
    refine v_bipush G 9 (decAt dd_BT_folded 4 rfl) (by decide) ?_
    refine v_icmp_ne G 67 (decAt dd_BT_folded 5 rfl) (by decide) (fun _ => ?_) (fun c9 => absurd c9 (by decide))
    refine v_iload_n G (decAt dd_BT_folded 40 rfl) rfl ?_
    refine v_bipush G 10 (decAt dd_BT_folded 41 rfl) (by decide) ?_
    refine v_icmp_eq G 79 (decAt dd_BT_folded 42 rfl) (by decide) (fun c70 => absurd c70 (by decide)) (fun _ => ?_)
    refine v_iload_n G (decAt dd_BT_folded 43 rfl) rfl ?_
    refine v_bipush G 11 (decAt dd_BT_folded 44 rfl) (by decide) ?_
    refine v_icmp_ne G 197 (decAt dd_BT_folded 45 rfl) (by decide) (fun _ => ?_) (fun c76 => absurd c76 (by decide))
    refine v_iload_n G (decAt dd_BT_folded 114 rfl) rfl ?_
    refine v_bipush G 14 (decAt dd_BT_folded 115 rfl) (by decide) ?_
    refine v_icmp_eq G 209 (decAt dd_BT_folded 116 rfl) (by decide) (fun c200 => absurd c200 (by decide)) (fun _ => ?_)
    refine v_iload_n G (decAt dd_BT_folded 117 rfl) rfl ?_
    refine v_bipush G 15 (decAt dd_BT_folded 118 rfl) (by decide) ?_
    refine v_icmp_ne G 279 (decAt dd_BT_folded 119 rfl) (by decide) (fun _ => ?_) (fun c206 => absurd c206 (by decide))
    refine v_iload_n G (decAt dd_BT_folded 160 rfl) rfl ?_
    refine v_bipush G 19 (decAt dd_BT_folded 161 rfl) (by decide) ?_
    refine v_icmp_ne G 365 (decAt dd_BT_folded 162 rfl) (by decide) (fun _ => ?_) (fun c282 => absurd c282 (by decide))
    refine v_iconst G 0 (decAt dd_BT_folded 210 rfl) (by decide) ?_
    exact v_zret G (decAt dd_BT_folded 211 rfl) rfl rfl ⟨A 13, rfl, hT, rfl, (up2_id hm).symm, (va_up_id A 13).symm, rfl, rfl⟩
/-- whether a code begins with labels, this one among them -/
def nxl (a : Int32) : Cod → Bool
  | [] => false
  | (n, k) :: r => if n = 13 then (if k = a then true else nxl a r) else false

set_option maxHeartbeats 4000000 in
theorem c_BT_next (l : Launch) {E : Bs} (hE : Hb E) {ρ : Nat → Nat} {g A : Nat → Nat → Int32} {n : Nat → Nat} {tx : Value} {c : Cod} {M k : Nat} {a : Int32} (hN : g 2 2 = nI (2 * c.length)) (hl : 2 * c.length ≤ n 12) (hn12 : n 12 = 256) (hC : CdI (A 12) c) (hM : M ≤ 20) (hk : k < c.length) : CW l E DC AC y_BT_next b_BT_next 5 (some .boolean) ({ frames := 0, cells := 0, slots := 0, locals := 0 } : Room) [.ref (E.o 2), .int (stv 2 M), .int a, .int (nI (2 * k))] ρ g A n tx (fun r ρ' g' A' n' tx' => r = some (.int (bI (decide (M = 10) && nxl a (c.drop (k + 1))))) ∧ ρ' = ρ ∧ g' = g ∧ A' = A ∧ n' = n ∧ tx' = tx) := by
  refine CW.start [some (.ref (E.o 2)), some (.int (stv 2 M)), some (.int a), some (.int (nI (2 * k))), none] hE (by decide) (Nat.le_of_ble_eq_true rfl) rfl ?_
  intro p e s m args below meth c1 G
  by_cases h10 : M = 10
  · rw [decide_eq_true h10, Bool.true_and]
    have J : ∀ (d i : Nat), i + d = c.length → nxl a (c.drop i) = nxl a (c.drop (k + 1)) → V p l e ({ frames := 0, cells := 0, slots := 0, locals := 0 } : Room) s m args below meth c1 5 (Sy E DC AC s.heap ρ g A n tx) 0 0 (MQ below (QW E DC AC (fun r ρ' g' A' n' tx' => r = some (.int (bI (nxl a (c.drop (k + 1))))) ∧ ρ' = ρ ∧ g' = g ∧ A' = A ∧ n' = n ∧ tx' = tx)) args s 0 0 E.F) 13 [some (.ref (E.o 2)), some (.int (stv 2 M)), some (.int a), some (.int (nI (2 * k))), some (.int (nI (2 * i)))] [] := by
      intro d
      induction d with
      | zero =>
        intro i hi hp
        rw [List.drop_eq_nil_of_le (by omega)] at hp
        refine v_iload G (decAt dd_BT_next 9 rfl) rfl ?_
        refine v_aload_n G (decAt dd_BT_next 10 rfl) rfl ?_
        refine v_geti G (decAt dd_BT_next 11 rfl) f_BT_46 ?_
        refine v_ri (y := (nI (2 * c.length))) hN ?_
        refine v_icmp_ge G 55 (decAt dd_BT_next 12 rfl) (by decide) (fun c19 => ?_) (fun c19 => ?_)
        · skip
          refine v_iconst G 0 (decAt dd_BT_next 31 rfl) (by decide) ?_
          exact v_zret G (decAt dd_BT_next 32 rfl) rfl rfl ⟨some_i (by rw [← hp]; rfl), rfl, rfl, rfl, rfl, rfl⟩
        · skip
          exact absurd (nI_le (by omega) (by omega)) c19
      | succ d ih =>
        intro i hi hp
        obtain ⟨⟨N, x⟩, hq⟩ : ∃ z, c[i]? = some z := ⟨c[i], List.getElem?_eq_getElem (by omega)⟩
        obtain ⟨t1, t2, t3⟩ := hC i N x hq
        have hdr : c.drop i = (N, x) :: c.drop (i + 1) := by
          rw [List.drop_eq_getElem_cons (by omega)]
          congr 1
          exact Option.some.inj ((List.getElem?_eq_getElem (by omega)).symm.trans hq)
        rw [hdr] at hp
        refine v_iload G (decAt dd_BT_next 9 rfl) rfl ?_
        refine v_aload_n G (decAt dd_BT_next 10 rfl) rfl ?_
        refine v_geti G (decAt dd_BT_next 11 rfl) f_BT_46 ?_
        refine v_ri (y := (nI (2 * c.length))) hN ?_
        refine v_icmp_ge G 55 (decAt dd_BT_next 12 rfl) (by decide) (fun c19 => ?_) (fun c19 => ?_)
        · skip
          exact absurd c19 (nI_ge (by omega) (by omega))
        · skip
          refine v_aload_n G (decAt dd_BT_next 13 rfl) rfl ?_
          refine v_geta G (decAt dd_BT_next 14 rfl) f_BT_9 ?_
          refine v_iload G (decAt dd_BT_next 15 rfl) rfl ?_
          refine v_iald G 12 (2 * i) (decAt dd_BT_next 16 rfl) (by decide) rfl rfl (by omega) ?_
          refine v_ri (y := stv 2 N) t1 ?_
          refine v_bipush G 22 (decAt dd_BT_next 17 rfl) (by decide) ?_
          refine v_icmp_ne G 55 (decAt dd_BT_next 18 rfl) (by decide) (fun c31 => ?_) (fun c31 => ?_)
          · skip
            refine v_iconst G 0 (decAt dd_BT_next 31 rfl) (by decide) ?_
            exact v_zret G (decAt dd_BT_next 32 rfl) rfl rfl ⟨some_i (by rw [← hp]; show bI false = bI (if N = 13 then _ else _); rw [if_neg (fun z => c31 (by rw [z]; rfl))]), rfl, rfl, rfl, rfl, rfl⟩
          · skip
            have h13 : N = 13 := stv2_inj N t3 13 (by omega) (by first | exact c31 | exact Classical.not_not.mp c31)
            subst h13
            refine v_aload_n G (decAt dd_BT_next 19 rfl) rfl ?_
            refine v_geta G (decAt dd_BT_next 20 rfl) f_BT_9 ?_
            refine v_iload G (decAt dd_BT_next 21 rfl) rfl ?_
            refine v_iconst G 1 (decAt dd_BT_next 22 rfl) (by decide) ?_
            refine v_iadd G (decAt dd_BT_next 23 rfl) ?_
            refine v_ri (y := (nI (2 * i + 1))) (nI_1 _) ?_
            refine v_iald G 12 (2 * i + 1) (decAt dd_BT_next 24 rfl) (by decide) rfl rfl (by omega) ?_
            refine v_ri (y := x) t2 ?_
            refine v_iload_n G (decAt dd_BT_next 25 rfl) rfl ?_
            refine v_icmp_ne G 49 (decAt dd_BT_next 26 rfl) (by decide) (fun c44 => ?_) (fun c44 => ?_)
            · skip
              refine v_iinc_4 G (nI (2 * (i + 1))) (decAt dd_BT_next 29 rfl) ((nI_add (2 * i) 2)) (by decide) rfl ?_
              refine v_goto G 13 (decAt dd_BT_next 30 rfl) (by decide) ?_
              exact ih (i + 1) (by omega) (by rw [← hp]; show _ = (if 13 = 13 then _ else _); rw [if_pos rfl, if_neg c44])
            · skip
              refine v_iconst G 1 (decAt dd_BT_next 27 rfl) (by decide) ?_
              exact v_zret G (decAt dd_BT_next 28 rfl) rfl rfl ⟨some_i (by rw [← hp]; show bI true = bI (if 13 = 13 then _ else _); rw [if_pos rfl, if_pos (by first | exact c44 | exact Classical.not_not.mp c44)]), rfl, rfl, rfl, rfl, rfl⟩
    refine v_iload_n G (decAt dd_BT_next 0 rfl) rfl ?_
    refine v_bipush G 13 (decAt dd_BT_next 1 rfl) (by decide) ?_
    refine v_icmp_eq G 8 (decAt dd_BT_next 2 rfl) (by decide) (fun c3 => ?_) (fun c3 => ?_)
    · skip
      refine v_iload_n G (decAt dd_BT_next 5 rfl) rfl ?_
      refine v_iconst G 2 (decAt dd_BT_next 6 rfl) (by decide) ?_
      refine v_iadd G (decAt dd_BT_next 7 rfl) ?_
      refine v_ri (y := (nI (2 * (k + 1)))) (nI_add (2 * k) 2) ?_
      refine v_istore_4 G (decAt dd_BT_next 8 rfl) (by decide) rfl ?_
      exact J (c.length - (k + 1)) (k + 1) (by omega) rfl
    · skip
      exact absurd (by rw [h10]; rfl) c3
  · rw [decide_eq_false h10, Bool.false_and]
    refine v_iload_n G (decAt dd_BT_next 0 rfl) rfl ?_
    refine v_bipush G 13 (decAt dd_BT_next 1 rfl) (by decide) ?_
    refine v_icmp_eq G 8 (decAt dd_BT_next 2 rfl) (by decide) (fun c3 => ?_) (fun c3 => ?_)
    · skip
      exact absurd (stv2_inj M hM 10 (by omega) c3) h10
    · skip
      refine v_iconst G 0 (decAt dd_BT_next 3 rfl) (by decide) ?_
      exact v_zret G (decAt dd_BT_next 4 rfl) rfl rfl ⟨rfl, rfl, rfl, rfl, rfl, rfl⟩
