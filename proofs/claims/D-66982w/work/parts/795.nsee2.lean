/-! the class: local and word, thrown and not -/
set_option maxHeartbeats 4000000 in
theorem c_RC_local_t (l : Launch) (hNT : NT l) {E : Bs} (hE : Hb E) {ρ : Nat → Nat} {g A : Nat → Nat → Int32} {n : Nat → Nat} {tx : Value} {x : Int32} (hx : ¬ (0 ≤ x ∧ x ≤ 15)) : CTh l E DC AC (NsC E) y_RC_local b_RC_local 2 (some .int) ({ frames := 6, cells := 1, slots := 6, locals := 90 } : Room) [.ref (E.o 0), .int x] ρ g A n tx (fun ρ' g' A' n' tx' => ρ' = ρ ∧ g' = g ∧ A' = A ∧ n' = n ∧ tx' = tx) := by
  refine CTh.start0 [some (.ref (E.o 0)), some (.int x)] hE (by decide) (Nat.le_of_ble_eq_true rfl) rfl tm_745 ?_
  intro p e s m args below meth c G hne hWd
  refine v_iload_n G (decAt dd_RC_local 0 rfl) rfl ?_
  refine v_if_lt G 10 (decAt dd_RC_local 1 rfl) (by decide) (fun c1 => ?_) (fun c1 => ?_)
  · skip
    exact v_throwNS G hNT hne (decAt dd_RC_local 5 rfl) (decAt dd_RC_local 6 rfl) (decAt dd_RC_local 7 rfl) (decAt dd_RC_local 8 rfl) hWd ⟨rfl, rfl, rfl, rfl, rfl⟩ ⟨by decide, by decide, by decide, by decide⟩ ⟨by decide, by decide⟩
  · skip
    refine v_iload_n G (decAt dd_RC_local 2 rfl) rfl ?_
    refine v_bipush G 16 (decAt dd_RC_local 3 rfl) (by decide) ?_
    refine v_icmp_lt G 18 (decAt dd_RC_local 4 rfl) (by decide) (fun c7 => ?_) (fun c7 => ?_)
    · skip
      exact absurd ⟨Int32.not_lt.mp c1, by have := Int32.lt_iff_toInt_lt.mp c7; rw [Int32.le_iff_toInt_le]; have e1 : (16 : Int32).toInt = 16 := rfl; have e2 : (15 : Int32).toInt = 15 := rfl; omega⟩ hx
    · skip
      exact v_throwNS G hNT hne (decAt dd_RC_local 5 rfl) (decAt dd_RC_local 6 rfl) (decAt dd_RC_local 7 rfl) (decAt dd_RC_local 8 rfl) hWd ⟨rfl, rfl, rfl, rfl, rfl⟩ ⟨by decide, by decide, by decide, by decide⟩ ⟨by decide, by decide⟩
set_option maxHeartbeats 4000000 in
theorem c_RC_word_t (l : Launch) (hNT : NT l) {E : Bs} (hE : Hb E) {ρ : Nat → Nat} {g A : Nat → Nat → Int32} {n : Nat → Nat} {tx : Value} {x : Int32} (hx : ¬ isW x.toInt = true) : CTh l E DC AC (NsC E) y_RC_word b_RC_word 2 (some .int) ({ frames := 6, cells := 1, slots := 6, locals := 90 } : Room) [.ref (E.o 0), .int x] ρ g A n tx (fun ρ' g' A' n' tx' => ρ' = ρ ∧ g' = g ∧ A' = A ∧ n' = n ∧ tx' = tx) := by
  refine CTh.start0 [some (.ref (E.o 0)), some (.int x)] hE (by decide) (Nat.le_of_ble_eq_true rfl) rfl tm_767 ?_
  intro p e s m args below meth c G hne hWd
  refine v_iload_n G (decAt dd_RC_word 0 rfl) rfl ?_
  refine v_i2l G (decAt dd_RC_word 1 rfl) ?_
  refine p_callSi G (XB_Pu G) (As := [.long (Int32.toInt64 x)]) (decAt dd_RC_word 2 rfl) k_RC_173 (c_RC_isWord l hE) rfl rfl (Nat.le_of_ble_eq_true rfl) ⟨by decide, by decide⟩ rfl rfl (by decide) ?_
  refine v_ri (y := 0) (bI_f (by rw [Int32.toInt_toInt64]; exact eq_false_of_ne_true hx)) ?_
  refine v_if_ne G 16 (decAt dd_RC_word 3 rfl) (by decide) (fun c5 => absurd c5 (by decide)) (fun _ => ?_)
  exact v_throwNS G hNT hne (decAt dd_RC_word 4 rfl) (decAt dd_RC_word 5 rfl) (decAt dd_RC_word 6 rfl) (decAt dd_RC_word 7 rfl) hWd ⟨rfl, rfl, rfl, rfl, rfl⟩ ⟨by decide, by decide, by decide, by decide⟩ ⟨by decide, by decide⟩
set_option maxHeartbeats 4000000 in
theorem c_RC_local (l : Launch) {E : Bs} (hE : Hb E) {ρ : Nat → Nat} {g A : Nat → Nat → Int32} {n : Nat → Nat} {tx : Value} {j : Nat} (hj : j < 16) (hn : RN n) : CW l E DC AC y_RC_local b_RC_local 2 (some .int) ({ frames := 0, cells := 0, slots := 0, locals := 0 } : Room) [.ref (E.o 0), .int (nI j)] ρ g A n tx (fun r ρ' g' A' n' tx' => r = some (.int (A 9 (64 + j))) ∧ ρ' = ρ ∧ g' = g ∧ A' = A ∧ n' = n ∧ tx' = tx) := by
  obtain ⟨hn0, hn1, hn2, hn3, hn4, hn5, hn6, hn7, hn8, hn9⟩ := hn
  refine CW.start [some (.ref (E.o 0)), some (.int (nI j))] hE (by decide) (Nat.le_of_ble_eq_true rfl) rfl ?_
  intro p e s m args below meth c G
  refine v_iload_n G (decAt dd_RC_local 0 rfl) rfl ?_
  refine v_if_lt G 10 (decAt dd_RC_local 1 rfl) (by decide) (fun c1 => ?_) (fun c1 => ?_)
  · skip
    exact absurd c1 (nI_pos (by omega))
  · skip
    refine v_iload_n G (decAt dd_RC_local 2 rfl) rfl ?_
    refine v_bipush G 16 (decAt dd_RC_local 3 rfl) (by decide) ?_
    refine v_icmp_lt G 18 (decAt dd_RC_local 4 rfl) (by decide) (fun c7 => ?_) (fun c7 => ?_)
    · skip
      refine v_aload_n G (decAt dd_RC_local 9 rfl) rfl ?_
      refine v_geta G (decAt dd_RC_local 10 rfl) f_RC_69 ?_
      refine v_bipush G 64 (decAt dd_RC_local 11 rfl) (by decide) ?_
      refine v_iload_n G (decAt dd_RC_local 12 rfl) rfl ?_
      refine v_iadd G (decAt dd_RC_local 13 rfl) ?_
      refine v_ri (y := (nI (64 + j))) (nI_add 64 j) ?_
      refine v_iald G 9 (64 + j) (decAt dd_RC_local 14 rfl) (by decide) rfl rfl (by omega) ?_
      exact v_iret G (decAt dd_RC_local 15 rfl) rfl ⟨rfl, rfl, rfl, rfl, rfl, rfl⟩
    · skip
      exact absurd (nI_lt (b := 16) hj (by omega)) c7
set_option maxHeartbeats 4000000 in
theorem c_RC_word (l : Launch) {E : Bs} (hE : Hb E) {ρ : Nat → Nat} {g A : Nat → Nat → Int32} {n : Nat → Nat} {tx : Value} {j : Nat} (hj : j < 64) (hn : RN n) : CW l E DC AC y_RC_word b_RC_word 2 (some .int) ({ frames := 1, cells := 0, slots := 0, locals := 21 } : Room) [.ref (E.o 0), .int (nI j)] ρ g A n tx (fun r ρ' g' A' n' tx' => r = some (.int (A 9 j)) ∧ ρ' = ρ ∧ g' = g ∧ A' = A ∧ n' = n ∧ tx' = tx) := by
  obtain ⟨hn0, hn1, hn2, hn3, hn4, hn5, hn6, hn7, hn8, hn9⟩ := hn
  refine CW.start [some (.ref (E.o 0)), some (.int (nI j))] hE (by decide) (Nat.le_of_ble_eq_true rfl) rfl ?_
  intro p e s m args below meth c G
  refine v_iload_n G (decAt dd_RC_word 0 rfl) rfl ?_
  refine v_i2l G (decAt dd_RC_word 1 rfl) ?_
  refine p_callSi G (XB_Sy G) (As := [.long (Int32.toInt64 (nI j))]) (decAt dd_RC_word 2 rfl) k_RC_173 (c_RC_isWord l hE) rfl rfl (Nat.le_of_ble_eq_true rfl) (by decide) rfl rfl (by decide) ?_
  refine v_ri (y := 1) (bI_t (by rw [Int32.toInt_toInt64, nI_toInt (by omega)]; exact decide_eq_true ⟨by omega, by omega⟩)) ?_
  refine v_if_ne G 16 (decAt dd_RC_word 3 rfl) (by decide) (fun _ => ?_) (fun c5 => absurd c5 (by decide))
  refine v_aload_n G (decAt dd_RC_word 8 rfl) rfl ?_
  refine v_geta G (decAt dd_RC_word 9 rfl) f_RC_69 ?_
  refine v_iload_n G (decAt dd_RC_word 10 rfl) rfl ?_
  refine v_iald G 9 j (decAt dd_RC_word 11 rfl) (by decide) rfl rfl (by omega) ?_
  exact v_iret G (decAt dd_RC_word 12 rfl) rfl ⟨rfl, rfl, rfl, rfl, rfl, rfl⟩
