/-! String.indexOf of the letters -/
theorem s16_ne : ∀ j, j < 8 → ∀ i, i < j → ¬ sby 16 i = sby 16 j := by decide +kernel
theorem s16_in : ∀ j, j < 8 → ¬ sby 16 j < 0 ∧ sby 16 j ≤ 255 := by decide +kernel

set_option maxHeartbeats 4000000 in
theorem c_SL_canEncode (l : Launch) {E : Bs} (hE : Hb E) {j : Nat} (hj : j < 8) : CP l E y_SL_canEncode b_SL_canEncode 1 (some .boolean) ({ frames := 0, cells := 0, slots := 0, locals := 0 } : Room) [.int (sby 16 j)] (fun r => r = some (.int 1)) := by
  refine CP.startF [some (.int (sby 16 j))] hE (by decide +kernel) (Nat.le_of_ble_eq_true rfl) rfl ?_
  intro p e s m args below meth c G
  refine v_iload_n G (decAt dd_SL_canEncode 0 rfl) rfl ?_
  refine v_if_lt G 15 (decAt dd_SL_canEncode 1 rfl) (by decide) (fun c1 => ?_) (fun c1 => ?_)
  · skip
    exact absurd c1 (s16_in j hj).1
  · skip
    refine v_iload_n G (decAt dd_SL_canEncode 2 rfl) rfl ?_
    refine v_sipush G 255 (decAt dd_SL_canEncode 3 rfl) (by decide) ?_
    refine v_icmp_gt G 15 (decAt dd_SL_canEncode 4 rfl) (by decide) (fun c8 => ?_) (fun c8 => ?_)
    · skip
      exact absurd (s16_in j hj).2 (Int32.not_le.mpr c8)
    · skip
      refine v_iconst G 1 (decAt dd_SL_canEncode 5 rfl) (by decide) ?_
      refine v_goto G 16 (decAt dd_SL_canEncode 6 rfl) (by decide) ?_
      exact p_zret G (decAt dd_SL_canEncode 8 rfl) rfl rfl rfl
set_option maxHeartbeats 4000000 in
theorem c_SL_indexOfChar (l : Launch) {E : Bs} (hE : Hb E) {j : Nat} (hj : j < 8) : CP l E y_SL_indexOfChar b_SL_indexOfChar 6 (some .int) ({ frames := 0, cells := 0, slots := 0, locals := 0 } : Room) [.ref (E.st (40 + 16)), .int (sby 16 j), .int 0, .int 8] (fun r => r = some (.int (nI j))) := by
  refine CP.startF [some (.ref (E.st (40 + 16))), some (.int (sby 16 j)), some (.int 0), some (.int 8), none, none] hE (by decide +kernel) (Nat.le_of_ble_eq_true rfl) rfl ?_
  intro p e s m args below meth c G
  have hb := (sby_ok 16 (by decide) j hj).1
  have J : ∀ (d i : Nat), i + d = j → V p l e ({ frames := 0, cells := 0, slots := 0, locals := 0 } : Room) s m args below meth c 6 (Pu s.heap) 0 0 (MQ below (QP (fun r => r = some (.int (nI j)))) args s 0 0 (fun _ => False)) 7 [some (.ref (E.st (40 + 16))), some (.int (sby 16 j)), some (.int 0), some (.int 8), some (.int (sby 16 j)), some (.int (nI i))] [] := by
    intro d
    induction d with
    | zero =>
      intro i hi
      have ei : i = j := by omega
      subst ei
      refine v_iload G (decAt dd_SL_indexOfChar 5 rfl) rfl ?_
      refine v_iload_n G (decAt dd_SL_indexOfChar 6 rfl) rfl ?_
      refine v_icmp_ge G 31 (decAt dd_SL_indexOfChar 7 rfl) (by decide) (fun c10 => ?_) (fun c10 => ?_)
      · skip
        exact absurd c10 (nI_ge (a := i) (b := 8) (by omega) (by omega))
      · skip
        refine v_aload_n G (decAt dd_SL_indexOfChar 8 rfl) rfl ?_
        refine v_iload G (decAt dd_SL_indexOfChar 9 rfl) rfl ?_
        refine q_bald G XS_Pu (i := 16) (j := i) (by decide) rfl (by show i < 8; omega) (decAt dd_SL_indexOfChar 10 rfl) ?_
        refine v_iload G (decAt dd_SL_indexOfChar 11 rfl) rfl ?_
        refine v_icmp_ne G 25 (decAt dd_SL_indexOfChar 12 rfl) (by decide) (fun c19 => ?_) (fun c19 => ?_)
        · skip
          exact absurd rfl c19
        · skip
          refine v_iload G (decAt dd_SL_indexOfChar 13 rfl) rfl ?_
          exact p_iret G (decAt dd_SL_indexOfChar 14 rfl) rfl rfl
    | succ d ih =>
      intro i hi
      refine v_iload G (decAt dd_SL_indexOfChar 5 rfl) rfl ?_
      refine v_iload_n G (decAt dd_SL_indexOfChar 6 rfl) rfl ?_
      refine v_icmp_ge G 31 (decAt dd_SL_indexOfChar 7 rfl) (by decide) (fun c10 => ?_) (fun c10 => ?_)
      · skip
        exact absurd c10 (nI_ge (a := i) (b := 8) (by omega) (by omega))
      · skip
        refine v_aload_n G (decAt dd_SL_indexOfChar 8 rfl) rfl ?_
        refine v_iload G (decAt dd_SL_indexOfChar 9 rfl) rfl ?_
        refine q_bald G XS_Pu (i := 16) (j := i) (by decide) rfl (by show i < 8; omega) (decAt dd_SL_indexOfChar 10 rfl) ?_
        refine v_iload G (decAt dd_SL_indexOfChar 11 rfl) rfl ?_
        refine v_icmp_ne G 25 (decAt dd_SL_indexOfChar 12 rfl) (by decide) (fun c19 => ?_) (fun c19 => ?_)
        · skip
          refine v_iinc_5 G (nI (i + 1)) (decAt dd_SL_indexOfChar 15 rfl) ((nI_1 _)) (by decide) rfl ?_
          refine v_goto G 7 (decAt dd_SL_indexOfChar 16 rfl) (by decide) ?_
          exact ih (i + 1) (by omega)
        · skip
          exact absurd (by first | exact c19 | exact Classical.not_not.mp c19) (s16_ne j hj i (by omega))
  refine v_iload_n G (decAt dd_SL_indexOfChar 0 rfl) rfl ?_
  refine v_i2b G (decAt dd_SL_indexOfChar 1 rfl) ?_
  refine v_ri (y := sby 16 j) hb ?_
  refine v_istore_4 G (decAt dd_SL_indexOfChar 2 rfl) (by decide) rfl ?_
  refine v_iload_n G (decAt dd_SL_indexOfChar 3 rfl) rfl ?_
  refine v_istore_5 G (decAt dd_SL_indexOfChar 4 rfl) (by decide) rfl ?_
  exact J j 0 (by omega)
set_option maxHeartbeats 4000000 in
theorem c_SL_indexOf (l : Launch) {E : Bs} (hE : Hb E) {j : Nat} (hj : j < 8) : CP l E y_SL_indexOf b_SL_indexOf 4 (some .int) ({ frames := 1, cells := 0, slots := 0, locals := 25 } : Room) [.ref (E.st (40 + 16)), .int (sby 16 j), .int 0, .int 8] (fun r => r = some (.int (nI j))) := by
  refine CP.startF [some (.ref (E.st (40 + 16))), some (.int (sby 16 j)), some (.int 0), some (.int 8)] hE (by decide +kernel) (Nat.le_of_ble_eq_true rfl) rfl ?_
  intro p e s m args below meth c G
  refine v_iload_n G (decAt dd_SL_indexOf 0 rfl) rfl ?_
  refine p_callSi G (XB_Pu G) (As := [.int (sby 16 j)]) (decAt dd_SL_indexOf 1 rfl) k_SL_88 (c_SL_canEncode l hE hj) rfl rfl (Nat.le_of_ble_eq_true rfl) (by decide) rfl rfl (by decide) ?_
  refine v_if_ne G 9 (decAt dd_SL_indexOf 2 rfl) (by decide) (fun _ => ?_) (fun c4 => absurd c4 (by decide))
  refine v_iload_n G (decAt dd_SL_indexOf 5 rfl) rfl ?_
  refine v_iconst G 0 (decAt dd_SL_indexOf 6 rfl) (by decide) ?_
  refine p_callSi G (XB_Pu G) (As := [.int 0, .int 0]) (decAt dd_SL_indexOf 7 rfl) k_SL_92 (c_MA_max l hE) rfl rfl (Nat.le_of_ble_eq_true rfl) (by decide) rfl rfl (by decide) ?_
  refine v_ri (y := 0) (by decide) ?_
  refine v_istore_2 G (decAt dd_SL_indexOf 8 rfl) (by decide) rfl ?_
  refine v_iload_n G (decAt dd_SL_indexOf 9 rfl) rfl ?_
  refine v_aload_n G (decAt dd_SL_indexOf 10 rfl) rfl ?_
  refine q_blen G XS_Pu (i := 16) (by decide) (decAt dd_SL_indexOf 11 rfl) ?_
  refine v_ri (y := 8) (by decide) ?_
  refine p_callSi G (XB_Pu G) (As := [.int 8, .int 8]) (decAt dd_SL_indexOf 12 rfl) k_SL_38 (c_MA_min l hE) rfl rfl (Nat.le_of_ble_eq_true rfl) (by decide) rfl rfl (by decide) ?_
  refine v_ri (y := 8) (by decide) ?_
  refine v_istore_3 G (decAt dd_SL_indexOf 13 rfl) (by decide) rfl ?_
  refine v_iload_n G (decAt dd_SL_indexOf 14 rfl) rfl ?_
  refine v_iload_n G (decAt dd_SL_indexOf 15 rfl) rfl ?_
  refine v_icmp_lt G 29 (decAt dd_SL_indexOf 16 rfl) (by decide) (fun _ => ?_) (fun c24 => absurd c24 (by decide))
  refine v_aload_n G (decAt dd_SL_indexOf 19 rfl) rfl ?_
  refine v_iload_n G (decAt dd_SL_indexOf 20 rfl) rfl ?_
  refine v_iload_n G (decAt dd_SL_indexOf 21 rfl) rfl ?_
  refine v_iload_n G (decAt dd_SL_indexOf 22 rfl) rfl ?_
  refine p_callSi G (XB_Pu G) (As := [.ref (E.st (40 + 16)), .int (sby 16 j), .int 0, .int 8]) (decAt dd_SL_indexOf 23 rfl) k_SL_95 (c_SL_indexOfChar l hE hj) rfl rfl (Nat.le_of_ble_eq_true rfl) (by decide) rfl rfl (by decide) ?_
  exact p_iret G (decAt dd_SL_indexOf 24 rfl) rfl rfl
set_option maxHeartbeats 4000000 in
theorem c_ST_indexOf_1 (l : Launch) {E : Bs} (hE : Hb E) {j : Nat} (hj : j < 8) : CP l E y_ST_indexOf_1 b_ST_indexOf_1 3 (some .int) ({ frames := 2, cells := 0, slots := 0, locals := 48 } : Room) [.ref (E.st (10 + 16)), .int (sby 16 j), .int 0] (fun r => r = some (.int (nI j))) := by
  refine CP.startF [some (.ref (E.st (10 + 16))), some (.int (sby 16 j)), some (.int 0)] hE (by decide +kernel) (Nat.le_of_ble_eq_true rfl) rfl ?_
  intro p e s m args below meth c G
  refine v_aload_n G (decAt dd_ST_indexOf_1 0 rfl) rfl ?_
  refine p_callVi G (XB_Pu G) (As := []) (decAt dd_ST_indexOf_1 1 rfl) k_ST_492 (c_ST_isLatin1 l hE (i := 16) (by decide)) (q_recv G XS_Pu (by decide)) rfl rfl (Nat.le_of_ble_eq_true rfl) (by decide) rfl rfl (by decide) ?_
  refine v_if_eq G 23 (decAt dd_ST_indexOf_1 2 rfl) (by decide) (fun c4 => absurd c4 (by decide)) (fun _ => ?_)
  refine v_aload_n G (decAt dd_ST_indexOf_1 3 rfl) rfl ?_
  refine q_value G XS_Pu (i := 16) (by decide) (decAt dd_ST_indexOf_1 4 rfl) tm_924 ?_
  refine v_iload_n G (decAt dd_ST_indexOf_1 5 rfl) rfl ?_
  refine v_iload_n G (decAt dd_ST_indexOf_1 6 rfl) rfl ?_
  refine v_aload_n G (decAt dd_ST_indexOf_1 7 rfl) rfl ?_
  refine p_callVi G (XB_Pu G) (As := []) (decAt dd_ST_indexOf_1 8 rfl) k_ST_505 (c_ST_length l hE (i := 16) (by decide)) (q_recv G XS_Pu (by decide)) rfl rfl (Nat.le_of_ble_eq_true rfl) (by decide) rfl rfl (by decide) ?_
  refine v_ri (y := 8) (by decide) ?_
  refine p_callSi G (XB_Pu G) (As := [.ref (E.st (40 + 16)), .int (sby 16 j), .int 0, .int 8]) (decAt dd_ST_indexOf_1 9 rfl) k_ST_637 (c_SL_indexOf l hE hj) rfl rfl (Nat.le_of_ble_eq_true rfl) (by decide) rfl rfl (by decide) ?_
  refine v_goto G 36 (decAt dd_ST_indexOf_1 10 rfl) (by decide) ?_
  exact p_iret G (decAt dd_ST_indexOf_1 18 rfl) rfl rfl
set_option maxHeartbeats 4000000 in
theorem c_ST_indexOf_0 (l : Launch) {E : Bs} (hE : Hb E) {j : Nat} (hj : j < 8) : CP l E y_ST_indexOf_0 b_ST_indexOf_0 2 (some .int) ({ frames := 3, cells := 0, slots := 0, locals := 70 } : Room) [.ref (E.st (10 + 16)), .int (sby 16 j)] (fun r => r = some (.int (nI j))) := by
  refine CP.startF [some (.ref (E.st (10 + 16))), some (.int (sby 16 j))] hE (by decide +kernel) (Nat.le_of_ble_eq_true rfl) rfl ?_
  intro p e s m args below meth c G
  refine v_aload_n G (decAt dd_ST_indexOf_0 0 rfl) rfl ?_
  refine v_iload_n G (decAt dd_ST_indexOf_0 1 rfl) rfl ?_
  refine v_iconst G 0 (decAt dd_ST_indexOf_0 2 rfl) (by decide) ?_
  refine p_callVi G (XB_Pu G) (As := [.int (sby 16 j), .int 0]) (decAt dd_ST_indexOf_0 3 rfl) k_ST_633 (c_ST_indexOf_1 l hE hj) (q_recv G XS_Pu (by decide)) rfl rfl (Nat.le_of_ble_eq_true rfl) (by decide) rfl rfl (by decide) ?_
  exact p_iret G (decAt dd_ST_indexOf_0 4 rfl) rfl rfl
