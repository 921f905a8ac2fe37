/-! the machine: must, reckons, does -/
theorem l2i_w {x y : Int32} (h : isW (wAt x y) = true) : (x.toInt64 + (y >>> ((2 : Int32) &&& 31)).toInt64).toInt32 = nI (wAt x y).toNat := by
  have h2 : 0 ≤ wAt x y ∧ wAt x y < 64 := of_decide_eq_true h
  have h3 := wAt_64 x y
  apply Int32.toInt_inj.mp
  rw [nI_toInt (by omega), Int64.toInt_toInt32, h3, Int.bmod_eq_of_le] <;> omega
set_option maxHeartbeats 4000000 in
theorem c_RC_must (l : Launch) {E : Bs} (hE : Hb E) {h : Int32} : CP l E y_RC_must b_RC_must 2 none ({ frames := 0, cells := 0, slots := 0, locals := 0 } : Room) [.int 1, .int h] (fun r => r = none) := by
  refine CP.start0 [some (.int 1), some (.int h)] hE (by decide) (Nat.le_of_ble_eq_true rfl) rfl ?_
  intro p e s m args below meth c G
  refine v_iload_n G (decAt dd_RC_must 0 rfl) rfl ?_
  refine v_if_ne G 13 (decAt dd_RC_must 1 rfl) (by decide) (fun _ => ?_) (fun c1 => absurd c1 (by decide))
  exact p_vret G (decAt dd_RC_must 7 rfl) rfl rfl
set_option maxHeartbeats 4000000 in
theorem c_RC_must_t (l : Launch) (hNT : NT l) {E : Bs} (hE : Hb E) {ρ : Nat → Nat} {g A : Nat → Nat → Int32} {n : Nat → Nat} {tx : Value} {h : Int32} : CTh l E DC AC (EnC E h) y_RC_must b_RC_must 2 none ({ frames := 6, cells := 1, slots := 7, locals := 91 } : Room) [.int 0, .int h] ρ g A n tx (fun ρ' g' A' n' tx' => ρ' = ρ ∧ g' = g ∧ A' = A ∧ n' = n ∧ tx' = tx) := by
  refine CTh.start0 [some (.int 0), some (.int h)] hE (by decide) (Nat.le_of_ble_eq_true rfl) rfl tm_650 ?_
  intro p e s m args below meth c G hne hWd
  refine v_iload_n G (decAt dd_RC_must 0 rfl) rfl ?_
  refine v_if_ne G 13 (decAt dd_RC_must 1 rfl) (by decide) (fun c1 => absurd c1 (by decide)) (fun _ => ?_)
  refine v_newE G (decAt dd_RC_must 2 rfl) ⟨by decide, by decide⟩ ?_
  refine v_dup G (decAt dd_RC_must 3 rfl) rfl ?_
  refine v_iload_n G (decAt dd_RC_must 4 rfl) rfl ?_
  exact v_throwE G hE hNT hne (h := h) (decAt dd_RC_must 5 rfl) (decAt dd_RC_must 6 rfl) hWd ⟨rfl, rfl, rfl, rfl, rfl⟩ ⟨by decide, by decide⟩ ⟨by decide, by decide⟩ ⟨by decide, by decide⟩
set_option maxHeartbeats 4000000 in
theorem c_RC_reckons_r (l : Launch) {E : Bs} (hE : Hb E) {ρ : Nat → Nat} {g A : Nat → Nat → Int32} {n : Nat → Nat} {tx : Value} {j : Nat} {a b : Int32} (ha : g 0 18 = a) (hb : g 0 19 = b) (hj : j < 6) : CW l E DC AC y_RC_reckons b_RC_reckons 3 none ({ frames := 2, cells := 0, slots := 0, locals := 44 } : Room) [.ref (E.o 0), .int (nI (40 + j))] ρ g A n tx (fun r ρ' g' A' n' tx' => r = none ∧ ρ' = ρ ∧ g' = up2 g 0 18 (rI (rel j b a)) ∧ A' = A ∧ n' = n ∧ tx' = tx) := by
  refine CW.start [some (.ref (E.o 0)), some (.int (nI (40 + j))), none] hE (by decide) (Nat.le_of_ble_eq_true rfl) rfl ?_
  intro p e s m args below meth c G
  refine v_iload_n G (decAt dd_RC_reckons 0 rfl) rfl ?_
  refine v_bipush G 40 (decAt dd_RC_reckons 1 rfl) (by decide) ?_
  refine v_icmp_lt G 34 (decAt dd_RC_reckons 2 rfl) (by decide) (fun c3 => ?_) (fun c3 => ?_)
  · skip
    exact absurd c3 (nI_nlt (b := 40) (by omega) (by omega))
  · skip
    refine v_aload_n G (decAt dd_RC_reckons 3 rfl) rfl ?_
    refine v_iload_n G (decAt dd_RC_reckons 4 rfl) rfl ?_
    refine v_bipush G 40 (decAt dd_RC_reckons 5 rfl) (by decide) ?_
    refine v_isub G (decAt dd_RC_reckons 6 rfl) ?_
    refine v_ri (y := (nI j)) (by rw [Nat.add_comm]; exact nI_sub j 40) ?_
    refine v_aload_n G (decAt dd_RC_reckons 7 rfl) rfl ?_
    refine v_geti G (decAt dd_RC_reckons 8 rfl) f_RC_166 ?_
    refine v_ri (y := b) hb ?_
    refine v_aload_n G (decAt dd_RC_reckons 9 rfl) rfl ?_
    refine v_geti G (decAt dd_RC_reckons 10 rfl) f_RC_163 ?_
    refine v_ri (y := a) ha ?_
    refine p_callSi G (XB_Sy G) (As := [.int (nI j), .int b, .int a]) (decAt dd_RC_reckons 11 rfl) k_RC_187 (c_RC_holds l hE (k := j) (by omega)) rfl rfl (Nat.le_of_ble_eq_true rfl) (by decide) rfl rfl (by decide) ?_
    refine v_if_eq G 29 (decAt dd_RC_reckons 12 rfl) (by decide) (fun c22 => ?_) (fun c22 => ?_)
    · skip
      refine v_iconst G 0 (decAt dd_RC_reckons 15 rfl) (by decide) ?_
      refine v_ri (y := rI (rel j b a)) (by cases hr : rel j b a with | false => rfl | true => rw [hr] at c22; exact absurd c22 (by decide)) ?_
      refine v_puti G (decAt dd_RC_reckons 16 rfl) f_RC_163 rfl rfl rfl ?_
      exact v_vret G (decAt dd_RC_reckons 17 rfl) rfl ⟨rfl, rfl, rfl, rfl, rfl, rfl⟩
    · skip
      refine v_iconst G (-1) (decAt dd_RC_reckons 13 rfl) (by decide) ?_
      refine v_goto G 30 (decAt dd_RC_reckons 14 rfl) (by decide) ?_
      refine v_ri (y := rI (rel j b a)) (by cases hr : rel j b a with | true => rfl | false => rw [hr] at c22; exact absurd rfl c22) ?_
      refine v_puti G (decAt dd_RC_reckons 16 rfl) f_RC_163 rfl rfl rfl ?_
      exact v_vret G (decAt dd_RC_reckons 17 rfl) rfl ⟨rfl, rfl, rfl, rfl, rfl, rfl⟩
set_option maxHeartbeats 4000000 in
theorem c_RC_reckons_o (l : Launch) {E : Bs} (hE : Hb E) {ρ : Nat → Nat} {g A : Nat → Nat → Int32} {n : Nat → Nat} {tx : Value} {j : Nat} {a b : Int32} (ha : g 0 18 = a) (hb : g 0 19 = b) (hj : j < 11) (hz : ¬ ((j = 3 ∨ j = 4) ∧ a = 0)) : CW l E DC AC y_RC_reckons b_RC_reckons 3 none ({ frames := 2, cells := 0, slots := 0, locals := 44 } : Room) [.ref (E.o 0), .int (nI (20 + j))] ρ g A n tx (fun r ρ' g' A' n' tx' => r = none ∧ ρ' = ρ ∧ g' = up2 g 0 18 (opr j b a) ∧ A' = A ∧ n' = n ∧ tx' = tx) := by
  refine CW.start [some (.ref (E.o 0)), some (.int (nI (20 + j))), none] hE (by decide) (Nat.le_of_ble_eq_true rfl) rfl ?_
  intro p e s m args below meth c G
  refine v_iload_n G (decAt dd_RC_reckons 0 rfl) rfl ?_
  refine v_bipush G 40 (decAt dd_RC_reckons 1 rfl) (by decide) ?_
  refine v_icmp_lt G 34 (decAt dd_RC_reckons 2 rfl) (by decide) (fun c3 => ?_) (fun c3 => ?_)
  · skip
    refine v_iload_n G (decAt dd_RC_reckons 18 rfl) rfl ?_
    refine v_bipush G 20 (decAt dd_RC_reckons 19 rfl) (by decide) ?_
    refine v_isub G (decAt dd_RC_reckons 20 rfl) ?_
    refine v_ri (y := (nI j)) (by rw [Nat.add_comm]; exact nI_sub j 20) ?_
    refine v_istore_2 G (decAt dd_RC_reckons 21 rfl) (by decide) rfl ?_
    refine v_iload_n G (decAt dd_RC_reckons 22 rfl) rfl ?_
    refine v_iconst G 3 (decAt dd_RC_reckons 23 rfl) (by decide) ?_
    refine v_icmp_eq G 49 (decAt dd_RC_reckons 24 rfl) (by decide) (fun c41 => ?_) (fun c41 => ?_)
    · skip
      refine v_aload_n G (decAt dd_RC_reckons 28 rfl) rfl ?_
      refine v_geti G (decAt dd_RC_reckons 29 rfl) f_RC_163 ?_
      refine v_ri (y := a) ha ?_
      refine v_if_eq G 60 (decAt dd_RC_reckons 30 rfl) (by decide) (fun c53 => ?_) (fun c53 => ?_)
      · skip
        exact absurd ⟨by first | exact Or.inl ((nI_eq (a := j) (b := 3) (by omega) (by omega)).mp c41) | exact Or.inr ((nI_eq (a := j) (b := 4) (by omega) (by omega)).mp (Classical.not_not.mp c46)) | exact Or.inr ((nI_eq (a := j) (b := 4) (by omega) (by omega)).mp c46), c53⟩ hz
      · skip
        refine v_iconst G 1 (decAt dd_RC_reckons 31 rfl) (by decide) ?_
        refine v_goto G 61 (decAt dd_RC_reckons 32 rfl) (by decide) ?_
        refine v_iconst G 3 (decAt dd_RC_reckons 34 rfl) (by decide) ?_
        refine p_callSv G (XB_Sy G) (As := [.int 1, .int 3]) (decAt dd_RC_reckons 35 rfl) k_RC_177 (c_RC_must l hE (h := 3)) rfl rfl (Nat.le_of_ble_eq_true rfl) (by decide) rfl rfl (by decide) ?_
        refine v_aload_n G (decAt dd_RC_reckons 36 rfl) rfl ?_
        refine v_iload_n G (decAt dd_RC_reckons 37 rfl) rfl ?_
        refine v_aload_n G (decAt dd_RC_reckons 38 rfl) rfl ?_
        refine v_geti G (decAt dd_RC_reckons 39 rfl) f_RC_166 ?_
        refine v_ri (y := b) hb ?_
        refine v_aload_n G (decAt dd_RC_reckons 40 rfl) rfl ?_
        refine v_geti G (decAt dd_RC_reckons 41 rfl) f_RC_163 ?_
        refine v_ri (y := a) ha ?_
        refine p_callSi G (XB_Sy G) (As := [.int (nI j), .int b, .int a]) (decAt dd_RC_reckons 42 rfl) k_RC_191 (c_RC_operated l hE (k := j) (by omega) (fun z1 z2 => hz ⟨z1, z2⟩)) rfl rfl (Nat.le_of_ble_eq_true rfl) (by decide) rfl rfl (by decide) ?_
        refine v_puti G (decAt dd_RC_reckons 43 rfl) f_RC_163 rfl rfl rfl ?_
        exact v_vret G (decAt dd_RC_reckons 44 rfl) rfl ⟨rfl, rfl, rfl, rfl, rfl, rfl⟩
    · skip
      refine v_iload_n G (decAt dd_RC_reckons 25 rfl) rfl ?_
      refine v_iconst G 4 (decAt dd_RC_reckons 26 rfl) (by decide) ?_
      refine v_icmp_ne G 56 (decAt dd_RC_reckons 27 rfl) (by decide) (fun c46 => ?_) (fun c46 => ?_)
      · skip
        refine v_iconst G 1 (decAt dd_RC_reckons 31 rfl) (by decide) ?_
        refine v_goto G 61 (decAt dd_RC_reckons 32 rfl) (by decide) ?_
        refine v_iconst G 3 (decAt dd_RC_reckons 34 rfl) (by decide) ?_
        refine p_callSv G (XB_Sy G) (As := [.int 1, .int 3]) (decAt dd_RC_reckons 35 rfl) k_RC_177 (c_RC_must l hE (h := 3)) rfl rfl (Nat.le_of_ble_eq_true rfl) (by decide) rfl rfl (by decide) ?_
        refine v_aload_n G (decAt dd_RC_reckons 36 rfl) rfl ?_
        refine v_iload_n G (decAt dd_RC_reckons 37 rfl) rfl ?_
        refine v_aload_n G (decAt dd_RC_reckons 38 rfl) rfl ?_
        refine v_geti G (decAt dd_RC_reckons 39 rfl) f_RC_166 ?_
        refine v_ri (y := b) hb ?_
        refine v_aload_n G (decAt dd_RC_reckons 40 rfl) rfl ?_
        refine v_geti G (decAt dd_RC_reckons 41 rfl) f_RC_163 ?_
        refine v_ri (y := a) ha ?_
        refine p_callSi G (XB_Sy G) (As := [.int (nI j), .int b, .int a]) (decAt dd_RC_reckons 42 rfl) k_RC_191 (c_RC_operated l hE (k := j) (by omega) (fun z1 z2 => hz ⟨z1, z2⟩)) rfl rfl (Nat.le_of_ble_eq_true rfl) (by decide) rfl rfl (by decide) ?_
        refine v_puti G (decAt dd_RC_reckons 43 rfl) f_RC_163 rfl rfl rfl ?_
        exact v_vret G (decAt dd_RC_reckons 44 rfl) rfl ⟨rfl, rfl, rfl, rfl, rfl, rfl⟩
      · skip
        refine v_aload_n G (decAt dd_RC_reckons 28 rfl) rfl ?_
        refine v_geti G (decAt dd_RC_reckons 29 rfl) f_RC_163 ?_
        refine v_ri (y := a) ha ?_
        refine v_if_eq G 60 (decAt dd_RC_reckons 30 rfl) (by decide) (fun c53 => ?_) (fun c53 => ?_)
        · skip
          exact absurd ⟨by first | exact Or.inl ((nI_eq (a := j) (b := 3) (by omega) (by omega)).mp c41) | exact Or.inr ((nI_eq (a := j) (b := 4) (by omega) (by omega)).mp (Classical.not_not.mp c46)) | exact Or.inr ((nI_eq (a := j) (b := 4) (by omega) (by omega)).mp c46), c53⟩ hz
        · skip
          refine v_iconst G 1 (decAt dd_RC_reckons 31 rfl) (by decide) ?_
          refine v_goto G 61 (decAt dd_RC_reckons 32 rfl) (by decide) ?_
          refine v_iconst G 3 (decAt dd_RC_reckons 34 rfl) (by decide) ?_
          refine p_callSv G (XB_Sy G) (As := [.int 1, .int 3]) (decAt dd_RC_reckons 35 rfl) k_RC_177 (c_RC_must l hE (h := 3)) rfl rfl (Nat.le_of_ble_eq_true rfl) (by decide) rfl rfl (by decide) ?_
          refine v_aload_n G (decAt dd_RC_reckons 36 rfl) rfl ?_
          refine v_iload_n G (decAt dd_RC_reckons 37 rfl) rfl ?_
          refine v_aload_n G (decAt dd_RC_reckons 38 rfl) rfl ?_
          refine v_geti G (decAt dd_RC_reckons 39 rfl) f_RC_166 ?_
          refine v_ri (y := b) hb ?_
          refine v_aload_n G (decAt dd_RC_reckons 40 rfl) rfl ?_
          refine v_geti G (decAt dd_RC_reckons 41 rfl) f_RC_163 ?_
          refine v_ri (y := a) ha ?_
          refine p_callSi G (XB_Sy G) (As := [.int (nI j), .int b, .int a]) (decAt dd_RC_reckons 42 rfl) k_RC_191 (c_RC_operated l hE (k := j) (by omega) (fun z1 z2 => hz ⟨z1, z2⟩)) rfl rfl (Nat.le_of_ble_eq_true rfl) (by decide) rfl rfl (by decide) ?_
          refine v_puti G (decAt dd_RC_reckons 43 rfl) f_RC_163 rfl rfl rfl ?_
          exact v_vret G (decAt dd_RC_reckons 44 rfl) rfl ⟨rfl, rfl, rfl, rfl, rfl, rfl⟩
  · skip
    exact absurd (nI_lt (b := 40) (by omega) (by omega)) c3
set_option maxHeartbeats 4000000 in
theorem c_RC_reckons_t (l : Launch) (hNT : NT l) {E : Bs} (hE : Hb E) {ρ : Nat → Nat} {g A : Nat → Nat → Int32} {n : Nat → Nat} {tx : Value} {j : Nat} {a b : Int32} (ha : g 0 18 = a) (hb : g 0 19 = b) (hz : (j = 3 ∨ j = 4) ∧ a = 0) : CTh l E DC AC (EnC E 3) y_RC_reckons b_RC_reckons 3 none ({ frames := 7, cells := 1, slots := 7, locals := 112 } : Room) [.ref (E.o 0), .int (nI (20 + j))] ρ g A n tx (fun ρ' g' A' n' tx' => ρ' = ρ ∧ g' = g ∧ A' = A ∧ n' = n ∧ tx' = tx) := by
  refine CTh.start [some (.ref (E.o 0)), some (.int (nI (20 + j))), none] hE (by decide) (Nat.le_of_ble_eq_true rfl) rfl tm_719 ?_
  intro p e s m args below meth c G hne
  refine v_iload_n G (decAt dd_RC_reckons 0 rfl) rfl ?_
  refine v_bipush G 40 (decAt dd_RC_reckons 1 rfl) (by decide) ?_
  refine v_icmp_lt G 34 (decAt dd_RC_reckons 2 rfl) (by decide) (fun c3 => ?_) (fun c3 => ?_)
  · skip
    refine v_iload_n G (decAt dd_RC_reckons 18 rfl) rfl ?_
    refine v_bipush G 20 (decAt dd_RC_reckons 19 rfl) (by decide) ?_
    refine v_isub G (decAt dd_RC_reckons 20 rfl) ?_
    refine v_ri (y := (nI j)) (by rw [Nat.add_comm]; exact nI_sub j 20) ?_
    refine v_istore_2 G (decAt dd_RC_reckons 21 rfl) (by decide) rfl ?_
    refine v_iload_n G (decAt dd_RC_reckons 22 rfl) rfl ?_
    refine v_iconst G 3 (decAt dd_RC_reckons 23 rfl) (by decide) ?_
    refine v_icmp_eq G 49 (decAt dd_RC_reckons 24 rfl) (by decide) (fun c41 => ?_) (fun c41 => ?_)
    · skip
      refine v_aload_n G (decAt dd_RC_reckons 28 rfl) rfl ?_
      refine v_geti G (decAt dd_RC_reckons 29 rfl) f_RC_163 ?_
      refine v_ri (y := a) ha ?_
      refine v_if_eq G 60 (decAt dd_RC_reckons 30 rfl) (by decide) (fun c53 => ?_) (fun c53 => ?_)
      · skip
        refine v_iconst G 0 (decAt dd_RC_reckons 33 rfl) (by decide) ?_
        refine v_iconst G 3 (decAt dd_RC_reckons 34 rfl) (by decide) ?_
        exact v_throwS G hne (As := [.int 0, .int 3]) (decAt dd_RC_reckons 35 rfl) k_RC_177 (c_RC_must_t l hNT hE (h := 3)) rfl rfl (Nat.le_of_ble_eq_true rfl) (by decide) (by decide) (by decide) (by decide) (fun _ _ _ _ _ hq => hq)
      · skip
        exact absurd hz.2 c53
    · skip
      refine v_iload_n G (decAt dd_RC_reckons 25 rfl) rfl ?_
      refine v_iconst G 4 (decAt dd_RC_reckons 26 rfl) (by decide) ?_
      refine v_icmp_ne G 56 (decAt dd_RC_reckons 27 rfl) (by decide) (fun c46 => ?_) (fun c46 => ?_)
      · skip
        exact absurd ((nI_eq (a := j) (b := 4) (by omega) (by omega)).mpr (hz.1.resolve_left (fun z => c41 ((nI_eq (a := j) (b := 3) (by omega) (by omega)).mpr z)))) c46
      · skip
        refine v_aload_n G (decAt dd_RC_reckons 28 rfl) rfl ?_
        refine v_geti G (decAt dd_RC_reckons 29 rfl) f_RC_163 ?_
        refine v_ri (y := a) ha ?_
        refine v_if_eq G 60 (decAt dd_RC_reckons 30 rfl) (by decide) (fun c53 => ?_) (fun c53 => ?_)
        · skip
          refine v_iconst G 0 (decAt dd_RC_reckons 33 rfl) (by decide) ?_
          refine v_iconst G 3 (decAt dd_RC_reckons 34 rfl) (by decide) ?_
          exact v_throwS G hne (As := [.int 0, .int 3]) (decAt dd_RC_reckons 35 rfl) k_RC_177 (c_RC_must_t l hNT hE (h := 3)) rfl rfl (Nat.le_of_ble_eq_true rfl) (by decide) (by decide) (by decide) (by decide) (fun _ _ _ _ _ hq => hq)
        · skip
          exact absurd hz.2 c53
  · skip
    exact absurd (nI_lt (b := 40) (by omega) (by omega)) c3
set_option maxHeartbeats 4000000 in
theorem c_RC_does_1 (l : Launch) {E : Bs} (hE : Hb E) {ρ : Nat → Nat} {g A : Nat → Nat → Int32} {n : Nat → Nat} {tx : Value} {a b : Int32} (ha : g 0 18 = a) (hb : g 0 19 = b) (h9 : n 9 = 80) (hw : isW a.toInt = true) : CW l E DC AC y_RC_does b_RC_does 4 none ({ frames := 3, cells := 0, slots := 0, locals := 66 } : Room) [.ref (E.o 0), .int 1] ρ g A n tx (fun r ρ' g' A' n' tx' => r = none ∧ ρ' = ρ ∧ g' = up2 g 0 18 (A 9 a.toNatClampNeg) ∧ A' = A ∧ n' = n ∧ tx' = tx) := by
  refine CW.start [some (.ref (E.o 0)), some (.int 1), none, none] hE (by decide) (Nat.le_of_ble_eq_true rfl) rfl ?_
  intro p e s m args below meth c G
  obtain ⟨ej, hlt⟩ := isW_cl hw
  refine v_iload_n G (decAt dd_RC_does 0 rfl) rfl ?_
  refine v_tswIn G 56 (decAt dd_RC_does 1 rfl) (by decide) (by decide) rfl (by decide) ?_
  refine v_aload_n G (decAt dd_RC_does 2 rfl) rfl ?_
  refine v_geti G (decAt dd_RC_does 3 rfl) f_RC_163 ?_
  refine v_ri (y := a) ha ?_
  refine v_i2l G (decAt dd_RC_does 4 rfl) ?_
  refine p_callSi G (XB_Sy G) (As := [.long (Int32.toInt64 a)]) (decAt dd_RC_does 5 rfl) k_RC_173 (c_RC_isWord l hE) rfl rfl (Nat.le_of_ble_eq_true rfl) (by decide) rfl rfl (by decide) ?_
  refine v_ri (y := 1) (bI_t (by rw [Int32.toInt_toInt64]; exact hw)) ?_
  refine v_iconst G 2 (decAt dd_RC_does 6 rfl) (by decide) ?_
  refine p_callSv G (XB_Sy G) (As := [.int 1, .int 2]) (decAt dd_RC_does 7 rfl) k_RC_177 (c_RC_must l hE (h := 2)) rfl rfl (Nat.le_of_ble_eq_true rfl) (by decide) rfl rfl (by decide) ?_
  refine v_aload_n G (decAt dd_RC_does 8 rfl) rfl ?_
  refine v_aload_n G (decAt dd_RC_does 9 rfl) rfl ?_
  refine v_geta G (decAt dd_RC_does 10 rfl) f_RC_69 ?_
  refine v_aload_n G (decAt dd_RC_does 11 rfl) rfl ?_
  refine v_geti G (decAt dd_RC_does 12 rfl) f_RC_163 ?_
  refine v_ri (y := a) ha ?_
  refine v_iald G 9 a.toNatClampNeg (decAt dd_RC_does 13 rfl) (by decide) rfl ej (by omega) ?_
  refine v_puti G (decAt dd_RC_does 14 rfl) f_RC_163 rfl rfl rfl ?_
  refine v_goto G 333 (decAt dd_RC_does 15 rfl) (by decide) ?_
  exact v_vret G (decAt dd_RC_does 163 rfl) rfl ⟨rfl, rfl, rfl, rfl, rfl, rfl⟩
set_option maxHeartbeats 4000000 in
theorem c_RC_does_1t (l : Launch) (hNT : NT l) {E : Bs} (hE : Hb E) {ρ : Nat → Nat} {g A : Nat → Nat → Int32} {n : Nat → Nat} {tx : Value} {a b : Int32} (ha : g 0 18 = a) (hb : g 0 19 = b) (h9 : n 9 = 80) (hw : ¬ isW a.toInt = true) : CTh l E DC AC (EnC E 2) y_RC_does b_RC_does 4 none ({ frames := 8, cells := 1, slots := 7, locals := 134 } : Room) [.ref (E.o 0), .int 1] ρ g A n tx (fun ρ' g' A' n' tx' => ρ' = ρ ∧ g' = g ∧ A' = A ∧ n' = n ∧ tx' = tx) := by
  refine CTh.start [some (.ref (E.o 0)), some (.int 1), none, none] hE (by decide) (Nat.le_of_ble_eq_true rfl) rfl tm_643 ?_
  intro p e s m args below meth c G hne
  refine v_iload_n G (decAt dd_RC_does 0 rfl) rfl ?_
  refine v_tswIn G 56 (decAt dd_RC_does 1 rfl) (by decide) (by decide) rfl (by decide) ?_
  refine v_aload_n G (decAt dd_RC_does 2 rfl) rfl ?_
  refine v_geti G (decAt dd_RC_does 3 rfl) f_RC_163 ?_
  refine v_ri (y := a) ha ?_
  refine v_i2l G (decAt dd_RC_does 4 rfl) ?_
  refine p_callSi G (XB_Sy G) (As := [.long (Int32.toInt64 a)]) (decAt dd_RC_does 5 rfl) k_RC_173 (c_RC_isWord l hE) rfl rfl (Nat.le_of_ble_eq_true rfl) (by decide) rfl rfl (by decide) ?_
  refine v_ri (y := 0) (bI_f (by rw [Int32.toInt_toInt64]; exact eq_false_of_ne_true hw)) ?_
  refine v_iconst G 2 (decAt dd_RC_does 6 rfl) (by decide) ?_
  exact v_throwS G hne (As := [.int 0, .int 2]) (decAt dd_RC_does 7 rfl) k_RC_177 (c_RC_must_t l hNT hE (h := 2)) rfl rfl (Nat.le_of_ble_eq_true rfl) (by decide) (by decide) (by decide) (by decide) (fun _ _ _ _ _ hq => hq)
set_option maxHeartbeats 4000000 in
theorem c_RC_does_2 (l : Launch) {E : Bs} (hE : Hb E) {ρ : Nat → Nat} {g A : Nat → Nat → Int32} {n : Nat → Nat} {tx : Value} {a b : Int32} (ha : g 0 18 = a) (hb : g 0 19 = b) (h9 : n 9 = 80)  : CW l E DC AC y_RC_does b_RC_does 4 none ({ frames := 3, cells := 0, slots := 0, locals := 66 } : Room) [.ref (E.o 0), .int 2] ρ g A n tx (fun r ρ' g' A' n' tx' => r = none ∧ ρ' = ρ ∧ g' = up2 g 0 18 (-a) ∧ A' = A ∧ n' = n ∧ tx' = tx) := by
  refine CW.start [some (.ref (E.o 0)), some (.int 2), none, none] hE (by decide) (Nat.le_of_ble_eq_true rfl) rfl ?_
  intro p e s m args below meth c G
  refine v_iload_n G (decAt dd_RC_does 0 rfl) rfl ?_
  refine v_tswIn G 84 (decAt dd_RC_does 1 rfl) (by decide) (by decide) rfl (by decide) ?_
  refine v_aload_n G (decAt dd_RC_does 16 rfl) rfl ?_
  refine v_aload_n G (decAt dd_RC_does 17 rfl) rfl ?_
  refine v_geti G (decAt dd_RC_does 18 rfl) f_RC_163 ?_
  refine v_ri (y := a) ha ?_
  refine v_ineg G (decAt dd_RC_does 19 rfl) ?_
  refine v_puti G (decAt dd_RC_does 20 rfl) f_RC_163 rfl rfl rfl ?_
  refine v_goto G 333 (decAt dd_RC_does 21 rfl) (by decide) ?_
  exact v_vret G (decAt dd_RC_does 163 rfl) rfl ⟨rfl, rfl, rfl, rfl, rfl, rfl⟩
set_option maxHeartbeats 4000000 in
theorem c_RC_does_3 (l : Launch) {E : Bs} (hE : Hb E) {ρ : Nat → Nat} {g A : Nat → Nat → Int32} {n : Nat → Nat} {tx : Value} {a b : Int32} (ha : g 0 18 = a) (hb : g 0 19 = b) (h9 : n 9 = 80)  : CW l E DC AC y_RC_does b_RC_does 4 none ({ frames := 3, cells := 0, slots := 0, locals := 66 } : Room) [.ref (E.o 0), .int 3] ρ g A n tx (fun r ρ' g' A' n' tx' => r = none ∧ ρ' = ρ ∧ g' = up2 g 0 18 (a ^^^ (-1)) ∧ A' = A ∧ n' = n ∧ tx' = tx) := by
  refine CW.start [some (.ref (E.o 0)), some (.int 3), none, none] hE (by decide) (Nat.le_of_ble_eq_true rfl) rfl ?_
  intro p e s m args below meth c G
  refine v_iload_n G (decAt dd_RC_does 0 rfl) rfl ?_
  refine v_tswIn G 96 (decAt dd_RC_does 1 rfl) (by decide) (by decide) rfl (by decide) ?_
  refine v_aload_n G (decAt dd_RC_does 22 rfl) rfl ?_
  refine v_aload_n G (decAt dd_RC_does 23 rfl) rfl ?_
  refine v_geti G (decAt dd_RC_does 24 rfl) f_RC_163 ?_
  refine v_ri (y := a) ha ?_
  refine v_iconst G (-1) (decAt dd_RC_does 25 rfl) (by decide) ?_
  refine v_ixor G (decAt dd_RC_does 26 rfl) ?_
  refine v_puti G (decAt dd_RC_does 27 rfl) f_RC_163 rfl rfl rfl ?_
  refine v_goto G 333 (decAt dd_RC_does 28 rfl) (by decide) ?_
  exact v_vret G (decAt dd_RC_does 163 rfl) rfl ⟨rfl, rfl, rfl, rfl, rfl, rfl⟩
set_option maxHeartbeats 4000000 in
theorem c_RC_does_4t (l : Launch) (hNT : NT l) {E : Bs} (hE : Hb E) {ρ : Nat → Nat} {g A : Nat → Nat → Int32} {n : Nat → Nat} {tx : Value} {a b : Int32} (ha : g 0 18 = a) (hb : g 0 19 = b) (h9 : n 9 = 80)  : CTh l E DC AC (EnC E 0) y_RC_does b_RC_does 4 none ({ frames := 8, cells := 1, slots := 7, locals := 134 } : Room) [.ref (E.o 0), .int 4] ρ g A n tx (fun ρ' g' A' n' tx' => ρ' = ρ ∧ g' = g ∧ A' = A ∧ n' = n ∧ tx' = tx) := by
  refine CTh.start0 [some (.ref (E.o 0)), some (.int 4), none, none] hE (by decide) (Nat.le_of_ble_eq_true rfl) rfl tm_643 ?_
  intro p e s m args below meth c G hne hWd
  refine v_iload_n G (decAt dd_RC_does 0 rfl) rfl ?_
  refine v_tswIn G 109 (decAt dd_RC_does 1 rfl) (by decide) (by decide) rfl (by decide) ?_
  refine v_newE G (decAt dd_RC_does 29 rfl) ⟨by decide, by decide⟩ ?_
  refine v_dup G (decAt dd_RC_does 30 rfl) rfl ?_
  refine v_iconst G 0 (decAt dd_RC_does 31 rfl) (by decide) ?_
  exact v_throwE G hE hNT hne (h := 0) (decAt dd_RC_does 32 rfl) (decAt dd_RC_does 33 rfl) hWd ⟨rfl, rfl, rfl, rfl, rfl⟩ ⟨by decide, by decide⟩ ⟨by decide, by decide⟩ ⟨by decide, by decide⟩
set_option maxHeartbeats 4000000 in
theorem c_RC_does_10t (l : Launch) (hNT : NT l) {E : Bs} (hE : Hb E) {ρ : Nat → Nat} {g A : Nat → Nat → Int32} {n : Nat → Nat} {tx : Value} {a b : Int32} (ha : g 0 18 = a) (hb : g 0 19 = b) (h9 : n 9 = 80)  : CTh l E DC AC (EnC E 4) y_RC_does b_RC_does 4 none ({ frames := 8, cells := 1, slots := 7, locals := 134 } : Room) [.ref (E.o 0), .int 10] ρ g A n tx (fun ρ' g' A' n' tx' => ρ' = ρ ∧ g' = g ∧ A' = A ∧ n' = n ∧ tx' = tx) := by
  refine CTh.start0 [some (.ref (E.o 0)), some (.int 10), none, none] hE (by decide) (Nat.le_of_ble_eq_true rfl) rfl tm_643 ?_
  intro p e s m args below meth c G hne hWd
  refine v_iload_n G (decAt dd_RC_does 0 rfl) rfl ?_
  refine v_tswIn G 319 (decAt dd_RC_does 1 rfl) (by decide) (by decide) rfl (by decide) ?_
  refine v_newE G (decAt dd_RC_does 155 rfl) ⟨by decide, by decide⟩ ?_
  refine v_dup G (decAt dd_RC_does 156 rfl) rfl ?_
  refine v_iconst G 4 (decAt dd_RC_does 157 rfl) (by decide) ?_
  exact v_throwE G hE hNT hne (h := 4) (decAt dd_RC_does 158 rfl) (decAt dd_RC_does 159 rfl) hWd ⟨rfl, rfl, rfl, rfl, rfl⟩ ⟨by decide, by decide⟩ ⟨by decide, by decide⟩ ⟨by decide, by decide⟩
set_option maxHeartbeats 4000000 in
theorem c_RC_does_5 (l : Launch) {E : Bs} (hE : Hb E) {ρ : Nat → Nat} {g A : Nat → Nat → Int32} {n : Nat → Nat} {tx : Value} {a b : Int32} (ha : g 0 18 = a) (hb : g 0 19 = b) (h9 : n 9 = 80) (hw : isW a.toInt = true) : CW l E DC AC y_RC_does b_RC_does 4 none ({ frames := 3, cells := 0, slots := 0, locals := 66 } : Room) [.ref (E.o 0), .int 5] ρ g A n tx (fun r ρ' g' A' n' tx' => r = none ∧ ρ' = ρ ∧ g' = g ∧ A' = va_up A 9 (va_up (A 9) a.toNatClampNeg b) ∧ n' = n ∧ tx' = tx) := by
  refine CW.start [some (.ref (E.o 0)), some (.int 5), none, none] hE (by decide) (Nat.le_of_ble_eq_true rfl) rfl ?_
  intro p e s m args below meth c G
  obtain ⟨ej, hlt⟩ := isW_cl hw
  refine v_iload_n G (decAt dd_RC_does 0 rfl) rfl ?_
  refine v_tswIn G 118 (decAt dd_RC_does 1 rfl) (by decide) (by decide) rfl (by decide) ?_
  refine v_aload_n G (decAt dd_RC_does 34 rfl) rfl ?_
  refine v_geti G (decAt dd_RC_does 35 rfl) f_RC_163 ?_
  refine v_ri (y := a) ha ?_
  refine v_i2l G (decAt dd_RC_does 36 rfl) ?_
  refine p_callSi G (XB_Sy G) (As := [.long (Int32.toInt64 a)]) (decAt dd_RC_does 37 rfl) k_RC_173 (c_RC_isWord l hE) rfl rfl (Nat.le_of_ble_eq_true rfl) (by decide) rfl rfl (by decide) ?_
  refine v_ri (y := 1) (bI_t (by rw [Int32.toInt_toInt64]; exact hw)) ?_
  refine v_iconst G 2 (decAt dd_RC_does 38 rfl) (by decide) ?_
  refine p_callSv G (XB_Sy G) (As := [.int 1, .int 2]) (decAt dd_RC_does 39 rfl) k_RC_177 (c_RC_must l hE (h := 2)) rfl rfl (Nat.le_of_ble_eq_true rfl) (by decide) rfl rfl (by decide) ?_
  refine v_aload_n G (decAt dd_RC_does 40 rfl) rfl ?_
  refine v_geta G (decAt dd_RC_does 41 rfl) f_RC_69 ?_
  refine v_aload_n G (decAt dd_RC_does 42 rfl) rfl ?_
  refine v_geti G (decAt dd_RC_does 43 rfl) f_RC_163 ?_
  refine v_ri (y := a) ha ?_
  refine v_aload_n G (decAt dd_RC_does 44 rfl) rfl ?_
  refine v_geti G (decAt dd_RC_does 45 rfl) f_RC_166 ?_
  refine v_ri (y := b) hb ?_
  refine v_iast G 9 a.toNatClampNeg (decAt dd_RC_does 46 rfl) (by decide) rfl ej (by omega) ?_
  refine v_goto G 333 (decAt dd_RC_does 47 rfl) (by decide) ?_
  exact v_vret G (decAt dd_RC_does 163 rfl) rfl ⟨rfl, rfl, rfl, rfl, rfl, rfl⟩
set_option maxHeartbeats 4000000 in
theorem c_RC_does_5t (l : Launch) (hNT : NT l) {E : Bs} (hE : Hb E) {ρ : Nat → Nat} {g A : Nat → Nat → Int32} {n : Nat → Nat} {tx : Value} {a b : Int32} (ha : g 0 18 = a) (hb : g 0 19 = b) (h9 : n 9 = 80) (hw : ¬ isW a.toInt = true) : CTh l E DC AC (EnC E 2) y_RC_does b_RC_does 4 none ({ frames := 8, cells := 1, slots := 7, locals := 134 } : Room) [.ref (E.o 0), .int 5] ρ g A n tx (fun ρ' g' A' n' tx' => ρ' = ρ ∧ g' = g ∧ A' = A ∧ n' = n ∧ tx' = tx) := by
  refine CTh.start [some (.ref (E.o 0)), some (.int 5), none, none] hE (by decide) (Nat.le_of_ble_eq_true rfl) rfl tm_643 ?_
  intro p e s m args below meth c G hne
  refine v_iload_n G (decAt dd_RC_does 0 rfl) rfl ?_
  refine v_tswIn G 118 (decAt dd_RC_does 1 rfl) (by decide) (by decide) rfl (by decide) ?_
  refine v_aload_n G (decAt dd_RC_does 34 rfl) rfl ?_
  refine v_geti G (decAt dd_RC_does 35 rfl) f_RC_163 ?_
  refine v_ri (y := a) ha ?_
  refine v_i2l G (decAt dd_RC_does 36 rfl) ?_
  refine p_callSi G (XB_Sy G) (As := [.long (Int32.toInt64 a)]) (decAt dd_RC_does 37 rfl) k_RC_173 (c_RC_isWord l hE) rfl rfl (Nat.le_of_ble_eq_true rfl) (by decide) rfl rfl (by decide) ?_
  refine v_ri (y := 0) (bI_f (by rw [Int32.toInt_toInt64]; exact eq_false_of_ne_true hw)) ?_
  refine v_iconst G 2 (decAt dd_RC_does 38 rfl) (by decide) ?_
  exact v_throwS G hne (As := [.int 0, .int 2]) (decAt dd_RC_does 39 rfl) k_RC_177 (c_RC_must_t l hNT hE (h := 2)) rfl rfl (Nat.le_of_ble_eq_true rfl) (by decide) (by decide) (by decide) (by decide) (fun _ _ _ _ _ hq => hq)
set_option maxHeartbeats 4000000 in
theorem c_RC_does_6 (l : Launch) {E : Bs} (hE : Hb E) {ρ : Nat → Nat} {g A : Nat → Nat → Int32} {n : Nat → Nat} {tx : Value} {a b : Int32} (ha : g 0 18 = a) (hb : g 0 19 = b) (h9 : n 9 = 80) (hw : isW (wAt b a) = true) : CW l E DC AC y_RC_does b_RC_does 4 none ({ frames := 3, cells := 0, slots := 0, locals := 66 } : Room) [.ref (E.o 0), .int 6] ρ g A n tx (fun r ρ' g' A' n' tx' => r = none ∧ ρ' = ρ ∧ g' = up2 g 0 18 (getb (A 9 (wAt b a).toNat) a) ∧ A' = A ∧ n' = n ∧ tx' = tx) := by
  refine CW.start [some (.ref (E.o 0)), some (.int 6), none, none] hE (by decide) (Nat.le_of_ble_eq_true rfl) rfl ?_
  intro p e s m args below meth c G
  have hw2 : 0 ≤ wAt b a ∧ wAt b a < 64 := of_decide_eq_true hw
  refine v_iload_n G (decAt dd_RC_does 0 rfl) rfl ?_
  refine v_tswIn G 146 (decAt dd_RC_does 1 rfl) (by decide) (by decide) rfl (by decide) ?_
  refine v_aload_n G (decAt dd_RC_does 48 rfl) rfl ?_
  refine v_geti G (decAt dd_RC_does 49 rfl) f_RC_166 ?_
  refine v_ri (y := b) hb ?_
  refine v_i2l G (decAt dd_RC_does 50 rfl) ?_
  refine v_aload_n G (decAt dd_RC_does 51 rfl) rfl ?_
  refine v_geti G (decAt dd_RC_does 52 rfl) f_RC_163 ?_
  refine v_ri (y := a) ha ?_
  refine v_iconst G 2 (decAt dd_RC_does 53 rfl) (by decide) ?_
  refine v_ishr G (decAt dd_RC_does 54 rfl) ?_
  refine v_i2l G (decAt dd_RC_does 55 rfl) ?_
  refine v_ladd G (decAt dd_RC_does 56 rfl) ?_
  refine v_lstore_2 G (decAt dd_RC_does 57 rfl) (by decide) rfl ?_
  refine v_lload_n G (decAt dd_RC_does 58 rfl) rfl ?_
  refine p_callSi G (XB_Sy G) (As := [.long ((Int32.toInt64 b) + (Int32.toInt64 (a >>> (2 &&& 31))))]) (decAt dd_RC_does 59 rfl) k_RC_173 (c_RC_isWord l hE) rfl rfl (Nat.le_of_ble_eq_true rfl) (by decide) rfl rfl (by decide) ?_
  refine v_ri (y := 1) (bI_t (by rw [wAt_64]; exact hw)) ?_
  refine v_iconst G 2 (decAt dd_RC_does 60 rfl) (by decide) ?_
  refine p_callSv G (XB_Sy G) (As := [.int 1, .int 2]) (decAt dd_RC_does 61 rfl) k_RC_177 (c_RC_must l hE (h := 2)) rfl rfl (Nat.le_of_ble_eq_true rfl) (by decide) rfl rfl (by decide) ?_
  refine v_aload_n G (decAt dd_RC_does 62 rfl) rfl ?_
  refine v_aload_n G (decAt dd_RC_does 63 rfl) rfl ?_
  refine v_geta G (decAt dd_RC_does 64 rfl) f_RC_69 ?_
  refine v_lload_n G (decAt dd_RC_does 65 rfl) rfl ?_
  refine v_l2i G (decAt dd_RC_does 66 rfl) ?_
  refine v_ri (y := nI (wAt b a).toNat) (l2i_w hw) ?_
  refine v_iald G 9 (wAt b a).toNat (decAt dd_RC_does 67 rfl) (by decide) rfl rfl (by omega) ?_
  refine v_bipush G 8 (decAt dd_RC_does 68 rfl) (by decide) ?_
  refine v_aload_n G (decAt dd_RC_does 69 rfl) rfl ?_
  refine v_geti G (decAt dd_RC_does 70 rfl) f_RC_163 ?_
  refine v_ri (y := a) ha ?_
  refine v_iconst G 3 (decAt dd_RC_does 71 rfl) (by decide) ?_
  refine v_iand G (decAt dd_RC_does 72 rfl) ?_
  refine v_imul G (decAt dd_RC_does 73 rfl) ?_
  refine v_ishr G (decAt dd_RC_does 74 rfl) ?_
  refine v_sipush G 255 (decAt dd_RC_does 75 rfl) (by decide) ?_
  refine v_iand G (decAt dd_RC_does 76 rfl) ?_
  refine v_puti G (decAt dd_RC_does 77 rfl) f_RC_163 rfl rfl rfl ?_
  refine v_goto G 333 (decAt dd_RC_does 78 rfl) (by decide) ?_
  exact v_vret G (decAt dd_RC_does 163 rfl) rfl ⟨rfl, rfl, rfl, rfl, rfl, rfl⟩
set_option maxHeartbeats 4000000 in
theorem c_RC_does_6t (l : Launch) (hNT : NT l) {E : Bs} (hE : Hb E) {ρ : Nat → Nat} {g A : Nat → Nat → Int32} {n : Nat → Nat} {tx : Value} {a b : Int32} (ha : g 0 18 = a) (hb : g 0 19 = b) (h9 : n 9 = 80) (hw : ¬ isW (wAt b a) = true) : CTh l E DC AC (EnC E 2) y_RC_does b_RC_does 4 none ({ frames := 8, cells := 1, slots := 7, locals := 134 } : Room) [.ref (E.o 0), .int 6] ρ g A n tx (fun ρ' g' A' n' tx' => ρ' = ρ ∧ g' = g ∧ A' = A ∧ n' = n ∧ tx' = tx) := by
  refine CTh.start [some (.ref (E.o 0)), some (.int 6), none, none] hE (by decide) (Nat.le_of_ble_eq_true rfl) rfl tm_643 ?_
  intro p e s m args below meth c G hne
  refine v_iload_n G (decAt dd_RC_does 0 rfl) rfl ?_
  refine v_tswIn G 146 (decAt dd_RC_does 1 rfl) (by decide) (by decide) rfl (by decide) ?_
  refine v_aload_n G (decAt dd_RC_does 48 rfl) rfl ?_
  refine v_geti G (decAt dd_RC_does 49 rfl) f_RC_166 ?_
  refine v_ri (y := b) hb ?_
  refine v_i2l G (decAt dd_RC_does 50 rfl) ?_
  refine v_aload_n G (decAt dd_RC_does 51 rfl) rfl ?_
  refine v_geti G (decAt dd_RC_does 52 rfl) f_RC_163 ?_
  refine v_ri (y := a) ha ?_
  refine v_iconst G 2 (decAt dd_RC_does 53 rfl) (by decide) ?_
  refine v_ishr G (decAt dd_RC_does 54 rfl) ?_
  refine v_i2l G (decAt dd_RC_does 55 rfl) ?_
  refine v_ladd G (decAt dd_RC_does 56 rfl) ?_
  refine v_lstore_2 G (decAt dd_RC_does 57 rfl) (by decide) rfl ?_
  refine v_lload_n G (decAt dd_RC_does 58 rfl) rfl ?_
  refine p_callSi G (XB_Sy G) (As := [.long ((Int32.toInt64 b) + (Int32.toInt64 (a >>> (2 &&& 31))))]) (decAt dd_RC_does 59 rfl) k_RC_173 (c_RC_isWord l hE) rfl rfl (Nat.le_of_ble_eq_true rfl) (by decide) rfl rfl (by decide) ?_
  refine v_ri (y := 0) (bI_f (by rw [wAt_64]; exact eq_false_of_ne_true hw)) ?_
  refine v_iconst G 2 (decAt dd_RC_does 60 rfl) (by decide) ?_
  exact v_throwS G hne (As := [.int 0, .int 2]) (decAt dd_RC_does 61 rfl) k_RC_177 (c_RC_must_t l hNT hE (h := 2)) rfl rfl (Nat.le_of_ble_eq_true rfl) (by decide) (by decide) (by decide) (by decide) (fun _ _ _ _ _ hq => hq)
set_option maxHeartbeats 4000000 in
theorem c_RC_does_7 (l : Launch) {E : Bs} (hE : Hb E) {ρ : Nat → Nat} {g A : Nat → Nat → Int32} {n : Nat → Nat} {tx : Value} {a b : Int32} (ha : g 0 18 = a) (hb : g 0 19 = b) (h9 : n 9 = 80) (hw : isW (wAt b a) = true) : CW l E DC AC y_RC_does b_RC_does 4 none ({ frames := 3, cells := 0, slots := 0, locals := 66 } : Room) [.ref (E.o 0), .int 7] ρ g A n tx (fun r ρ' g' A' n' tx' => r = none ∧ ρ' = ρ ∧ g' = up2 g 0 18 ((nI (wAt b a).toNat <<< ((2 : Int32) &&& 31)) ||| (a &&& 3)) ∧ A' = A ∧ n' = n ∧ tx' = tx) := by
  refine CW.start [some (.ref (E.o 0)), some (.int 7), none, none] hE (by decide) (Nat.le_of_ble_eq_true rfl) rfl ?_
  intro p e s m args below meth c G
  have hw2 : 0 ≤ wAt b a ∧ wAt b a < 64 := of_decide_eq_true hw
  refine v_iload_n G (decAt dd_RC_does 0 rfl) rfl ?_
  refine v_tswIn G 196 (decAt dd_RC_does 1 rfl) (by decide) (by decide) rfl (by decide) ?_
  refine v_aload_n G (decAt dd_RC_does 79 rfl) rfl ?_
  refine v_geti G (decAt dd_RC_does 80 rfl) f_RC_166 ?_
  refine v_ri (y := b) hb ?_
  refine v_i2l G (decAt dd_RC_does 81 rfl) ?_
  refine v_aload_n G (decAt dd_RC_does 82 rfl) rfl ?_
  refine v_geti G (decAt dd_RC_does 83 rfl) f_RC_163 ?_
  refine v_ri (y := a) ha ?_
  refine v_iconst G 2 (decAt dd_RC_does 84 rfl) (by decide) ?_
  refine v_ishr G (decAt dd_RC_does 85 rfl) ?_
  refine v_i2l G (decAt dd_RC_does 86 rfl) ?_
  refine v_ladd G (decAt dd_RC_does 87 rfl) ?_
  refine v_lstore_2 G (decAt dd_RC_does 88 rfl) (by decide) rfl ?_
  refine v_lload_n G (decAt dd_RC_does 89 rfl) rfl ?_
  refine p_callSi G (XB_Sy G) (As := [.long ((Int32.toInt64 b) + (Int32.toInt64 (a >>> (2 &&& 31))))]) (decAt dd_RC_does 90 rfl) k_RC_173 (c_RC_isWord l hE) rfl rfl (Nat.le_of_ble_eq_true rfl) (by decide) rfl rfl (by decide) ?_
  refine v_ri (y := 1) (bI_t (by rw [wAt_64]; exact hw)) ?_
  refine v_iconst G 2 (decAt dd_RC_does 91 rfl) (by decide) ?_
  refine p_callSv G (XB_Sy G) (As := [.int 1, .int 2]) (decAt dd_RC_does 92 rfl) k_RC_177 (c_RC_must l hE (h := 2)) rfl rfl (Nat.le_of_ble_eq_true rfl) (by decide) rfl rfl (by decide) ?_
  refine v_aload_n G (decAt dd_RC_does 93 rfl) rfl ?_
  refine v_lload_n G (decAt dd_RC_does 94 rfl) rfl ?_
  refine v_l2i G (decAt dd_RC_does 95 rfl) ?_
  refine v_ri (y := nI (wAt b a).toNat) (l2i_w hw) ?_
  refine v_iconst G 2 (decAt dd_RC_does 96 rfl) (by decide) ?_
  refine v_ishl G (decAt dd_RC_does 97 rfl) ?_
  refine v_aload_n G (decAt dd_RC_does 98 rfl) rfl ?_
  refine v_geti G (decAt dd_RC_does 99 rfl) f_RC_163 ?_
  refine v_ri (y := a) ha ?_
  refine v_iconst G 3 (decAt dd_RC_does 100 rfl) (by decide) ?_
  refine v_iand G (decAt dd_RC_does 101 rfl) ?_
  refine v_ior G (decAt dd_RC_does 102 rfl) ?_
  refine v_puti G (decAt dd_RC_does 103 rfl) f_RC_163 rfl rfl rfl ?_
  refine v_goto G 333 (decAt dd_RC_does 104 rfl) (by decide) ?_
  exact v_vret G (decAt dd_RC_does 163 rfl) rfl ⟨rfl, rfl, rfl, rfl, rfl, rfl⟩
set_option maxHeartbeats 4000000 in
theorem c_RC_does_7t (l : Launch) (hNT : NT l) {E : Bs} (hE : Hb E) {ρ : Nat → Nat} {g A : Nat → Nat → Int32} {n : Nat → Nat} {tx : Value} {a b : Int32} (ha : g 0 18 = a) (hb : g 0 19 = b) (h9 : n 9 = 80) (hw : ¬ isW (wAt b a) = true) : CTh l E DC AC (EnC E 2) y_RC_does b_RC_does 4 none ({ frames := 8, cells := 1, slots := 7, locals := 134 } : Room) [.ref (E.o 0), .int 7] ρ g A n tx (fun ρ' g' A' n' tx' => ρ' = ρ ∧ g' = g ∧ A' = A ∧ n' = n ∧ tx' = tx) := by
  refine CTh.start [some (.ref (E.o 0)), some (.int 7), none, none] hE (by decide) (Nat.le_of_ble_eq_true rfl) rfl tm_643 ?_
  intro p e s m args below meth c G hne
  refine v_iload_n G (decAt dd_RC_does 0 rfl) rfl ?_
  refine v_tswIn G 196 (decAt dd_RC_does 1 rfl) (by decide) (by decide) rfl (by decide) ?_
  refine v_aload_n G (decAt dd_RC_does 79 rfl) rfl ?_
  refine v_geti G (decAt dd_RC_does 80 rfl) f_RC_166 ?_
  refine v_ri (y := b) hb ?_
  refine v_i2l G (decAt dd_RC_does 81 rfl) ?_
  refine v_aload_n G (decAt dd_RC_does 82 rfl) rfl ?_
  refine v_geti G (decAt dd_RC_does 83 rfl) f_RC_163 ?_
  refine v_ri (y := a) ha ?_
  refine v_iconst G 2 (decAt dd_RC_does 84 rfl) (by decide) ?_
  refine v_ishr G (decAt dd_RC_does 85 rfl) ?_
  refine v_i2l G (decAt dd_RC_does 86 rfl) ?_
  refine v_ladd G (decAt dd_RC_does 87 rfl) ?_
  refine v_lstore_2 G (decAt dd_RC_does 88 rfl) (by decide) rfl ?_
  refine v_lload_n G (decAt dd_RC_does 89 rfl) rfl ?_
  refine p_callSi G (XB_Sy G) (As := [.long ((Int32.toInt64 b) + (Int32.toInt64 (a >>> (2 &&& 31))))]) (decAt dd_RC_does 90 rfl) k_RC_173 (c_RC_isWord l hE) rfl rfl (Nat.le_of_ble_eq_true rfl) (by decide) rfl rfl (by decide) ?_
  refine v_ri (y := 0) (bI_f (by rw [wAt_64]; exact eq_false_of_ne_true hw)) ?_
  refine v_iconst G 2 (decAt dd_RC_does 91 rfl) (by decide) ?_
  exact v_throwS G hne (As := [.int 0, .int 2]) (decAt dd_RC_does 92 rfl) k_RC_177 (c_RC_must_t l hNT hE (h := 2)) rfl rfl (Nat.le_of_ble_eq_true rfl) (by decide) (by decide) (by decide) (by decide) (fun _ _ _ _ _ hq => hq)
set_option maxHeartbeats 4000000 in
theorem c_RC_does_8 (l : Launch) {E : Bs} (hE : Hb E) {ρ : Nat → Nat} {g A : Nat → Nat → Int32} {n : Nat → Nat} {tx : Value} {a b : Int32} (ha : g 0 18 = a) (hb : g 0 19 = b) (h9 : n 9 = 80) (hw : isW (a >>> ((2 : Int32) &&& 31)).toInt = true) : CW l E DC AC y_RC_does b_RC_does 4 none ({ frames := 3, cells := 0, slots := 0, locals := 66 } : Room) [.ref (E.o 0), .int 8] ρ g A n tx (fun r ρ' g' A' n' tx' => r = none ∧ ρ' = ρ ∧ g' = g ∧ A' = va_up A 9 (va_up (A 9) (a >>> ((2 : Int32) &&& 31)).toNatClampNeg (setb (A 9 (a >>> ((2 : Int32) &&& 31)).toNatClampNeg) a b)) ∧ n' = n ∧ tx' = tx) := by
  refine CW.start [some (.ref (E.o 0)), some (.int 8), none, none] hE (by decide) (Nat.le_of_ble_eq_true rfl) rfl ?_
  intro p e s m args below meth c G
  obtain ⟨ej, hlt⟩ := isW_cl hw
  refine v_iload_n G (decAt dd_RC_does 0 rfl) rfl ?_
  refine v_tswIn G 236 (decAt dd_RC_does 1 rfl) (by decide) (by decide) rfl (by decide) ?_
  refine v_bipush G 8 (decAt dd_RC_does 105 rfl) (by decide) ?_
  refine v_aload_n G (decAt dd_RC_does 106 rfl) rfl ?_
  refine v_geti G (decAt dd_RC_does 107 rfl) f_RC_163 ?_
  refine v_ri (y := a) ha ?_
  refine v_iconst G 3 (decAt dd_RC_does 108 rfl) (by decide) ?_
  refine v_iand G (decAt dd_RC_does 109 rfl) ?_
  refine v_imul G (decAt dd_RC_does 110 rfl) ?_
  refine v_istore_2 G (decAt dd_RC_does 111 rfl) (by decide) rfl ?_
  refine v_aload_n G (decAt dd_RC_does 112 rfl) rfl ?_
  refine v_geta G (decAt dd_RC_does 113 rfl) f_RC_69 ?_
  refine v_aload_n G (decAt dd_RC_does 114 rfl) rfl ?_
  refine v_geti G (decAt dd_RC_does 115 rfl) f_RC_163 ?_
  refine v_ri (y := a) ha ?_
  refine v_iconst G 2 (decAt dd_RC_does 116 rfl) (by decide) ?_
  refine v_ishr G (decAt dd_RC_does 117 rfl) ?_
  refine v_aload_n G (decAt dd_RC_does 118 rfl) rfl ?_
  refine v_geta G (decAt dd_RC_does 119 rfl) f_RC_69 ?_
  refine v_aload_n G (decAt dd_RC_does 120 rfl) rfl ?_
  refine v_geti G (decAt dd_RC_does 121 rfl) f_RC_163 ?_
  refine v_ri (y := a) ha ?_
  refine v_iconst G 2 (decAt dd_RC_does 122 rfl) (by decide) ?_
  refine v_ishr G (decAt dd_RC_does 123 rfl) ?_
  refine v_iald G 9 (a >>> ((2 : Int32) &&& 31)).toNatClampNeg (decAt dd_RC_does 124 rfl) (by decide) rfl ej (by omega) ?_
  refine v_sipush G 255 (decAt dd_RC_does 125 rfl) (by decide) ?_
  refine v_iload_n G (decAt dd_RC_does 126 rfl) rfl ?_
  refine v_ishl G (decAt dd_RC_does 127 rfl) ?_
  refine v_iconst G (-1) (decAt dd_RC_does 128 rfl) (by decide) ?_
  refine v_ixor G (decAt dd_RC_does 129 rfl) ?_
  refine v_iand G (decAt dd_RC_does 130 rfl) ?_
  refine v_aload_n G (decAt dd_RC_does 131 rfl) rfl ?_
  refine v_geti G (decAt dd_RC_does 132 rfl) f_RC_166 ?_
  refine v_ri (y := b) hb ?_
  refine v_sipush G 255 (decAt dd_RC_does 133 rfl) (by decide) ?_
  refine v_iand G (decAt dd_RC_does 134 rfl) ?_
  refine v_iload_n G (decAt dd_RC_does 135 rfl) rfl ?_
  refine v_ishl G (decAt dd_RC_does 136 rfl) ?_
  refine v_ior G (decAt dd_RC_does 137 rfl) ?_
  refine v_iast G 9 (a >>> ((2 : Int32) &&& 31)).toNatClampNeg (decAt dd_RC_does 138 rfl) (by decide) rfl ej (by omega) ?_
  refine v_goto G 333 (decAt dd_RC_does 139 rfl) (by decide) ?_
  exact v_vret G (decAt dd_RC_does 163 rfl) rfl ⟨rfl, rfl, rfl, rfl, rfl, rfl⟩
set_option maxHeartbeats 4000000 in
theorem c_RC_does_9 (l : Launch) {E : Bs} (hE : Hb E) {ρ : Nat → Nat} {g A : Nat → Nat → Int32} {n : Nat → Nat} {tx : Value} {a b : Int32} (ha : g 0 18 = a) (hb : g 0 19 = b) (h9 : n 9 = 80) {fu : Nat} (hf : g 0 21 = nI fu) (h0 : 0 < fu) (hfu : fu ≤ 20000) : CW l E DC AC y_RC_does b_RC_does 4 none ({ frames := 3, cells := 0, slots := 0, locals := 66 } : Room) [.ref (E.o 0), .int 9] ρ g A n tx (fun r ρ' g' A' n' tx' => r = none ∧ ρ' = ρ ∧ g' = up2 g 0 21 (nI (fu - 1)) ∧ A' = A ∧ n' = n ∧ tx' = tx) := by
  refine CW.start [some (.ref (E.o 0)), some (.int 9), none, none] hE (by decide) (Nat.le_of_ble_eq_true rfl) rfl ?_
  intro p e s m args below meth c G
  refine v_iload_n G (decAt dd_RC_does 0 rfl) rfl ?_
  refine v_tswIn G 290 (decAt dd_RC_does 1 rfl) (by decide) (by decide) rfl (by decide) ?_
  refine v_aload_n G (decAt dd_RC_does 140 rfl) rfl ?_
  refine v_geti G (decAt dd_RC_does 141 rfl) f_RC_181 ?_
  refine v_ri (y := (nI fu)) hf ?_
  refine v_if_le G 301 (decAt dd_RC_does 142 rfl) (by decide) (fun c294 => ?_) (fun c294 => ?_)
  · skip
    exact absurd c294 (nI_nle h0 (by omega))
  · skip
    refine v_iconst G 1 (decAt dd_RC_does 143 rfl) (by decide) ?_
    refine v_goto G 302 (decAt dd_RC_does 144 rfl) (by decide) ?_
    refine v_iconst G 1 (decAt dd_RC_does 146 rfl) (by decide) ?_
    refine p_callSv G (XB_Sy G) (As := [.int 1, .int 1]) (decAt dd_RC_does 147 rfl) k_RC_177 (c_RC_must l hE (h := 1)) rfl rfl (Nat.le_of_ble_eq_true rfl) (by decide) rfl rfl (by decide) ?_
    refine v_aload_n G (decAt dd_RC_does 148 rfl) rfl ?_
    refine v_dup G (decAt dd_RC_does 149 rfl) rfl ?_
    refine v_geti G (decAt dd_RC_does 150 rfl) f_RC_181 ?_
    refine v_ri (y := (nI fu)) hf ?_
    refine v_iconst G 1 (decAt dd_RC_does 151 rfl) (by decide) ?_
    refine v_isub G (decAt dd_RC_does 152 rfl) ?_
    refine v_ri (y := (nI (fu - 1))) (pk_sub (b := 1) (by omega)) ?_
    refine v_puti G (decAt dd_RC_does 153 rfl) f_RC_181 rfl rfl rfl ?_
    refine v_goto G 333 (decAt dd_RC_does 154 rfl) (by decide) ?_
    exact v_vret G (decAt dd_RC_does 163 rfl) rfl ⟨rfl, rfl, rfl, rfl, rfl, rfl⟩
set_option maxHeartbeats 4000000 in
theorem c_RC_does_9t (l : Launch) (hNT : NT l) {E : Bs} (hE : Hb E) {ρ : Nat → Nat} {g A : Nat → Nat → Int32} {n : Nat → Nat} {tx : Value} {a b : Int32} (ha : g 0 18 = a) (hb : g 0 19 = b) (h9 : n 9 = 80) (hf : g 0 21 = nI 0) : CTh l E DC AC (EnC E 1) y_RC_does b_RC_does 4 none ({ frames := 8, cells := 1, slots := 7, locals := 134 } : Room) [.ref (E.o 0), .int 9] ρ g A n tx (fun ρ' g' A' n' tx' => ρ' = ρ ∧ g' = g ∧ A' = A ∧ n' = n ∧ tx' = tx) := by
  refine CTh.start [some (.ref (E.o 0)), some (.int 9), none, none] hE (by decide) (Nat.le_of_ble_eq_true rfl) rfl tm_643 ?_
  intro p e s m args below meth c G hne
  refine v_iload_n G (decAt dd_RC_does 0 rfl) rfl ?_
  refine v_tswIn G 290 (decAt dd_RC_does 1 rfl) (by decide) (by decide) rfl (by decide) ?_
  refine v_aload_n G (decAt dd_RC_does 140 rfl) rfl ?_
  refine v_geti G (decAt dd_RC_does 141 rfl) f_RC_181 ?_
  refine v_ri (y := (nI 0)) hf ?_
  refine v_if_le G 301 (decAt dd_RC_does 142 rfl) (by decide) (fun _ => ?_) (fun c294 => absurd c294 (by decide))
  refine v_iconst G 0 (decAt dd_RC_does 145 rfl) (by decide) ?_
  refine v_iconst G 1 (decAt dd_RC_does 146 rfl) (by decide) ?_
  exact v_throwS G hne (As := [.int 0, .int 1]) (decAt dd_RC_does 147 rfl) k_RC_177 (c_RC_must_t l hNT hE (h := 1)) rfl rfl (Nat.le_of_ble_eq_true rfl) (by decide) (by decide) (by decide) (by decide) (fun _ _ _ _ _ hq => hq)
set_option maxHeartbeats 4000000 in
theorem c_RC_does_r (l : Launch) {E : Bs} (hE : Hb E) {ρ : Nat → Nat} {g A : Nat → Nat → Int32} {n : Nat → Nat} {tx : Value} {a b : Int32} (ha : g 0 18 = a) (hb : g 0 19 = b) (h9 : n 9 = 80) {j : Nat} (hj : j < 6) : CW l E DC AC y_RC_does b_RC_does 4 none ({ frames := 3, cells := 0, slots := 0, locals := 66 } : Room) [.ref (E.o 0), .int (nI (40 + j))] ρ g A n tx (fun r ρ' g' A' n' tx' => r = none ∧ ρ' = ρ ∧ g' = up2 g 0 18 (rI (rel j b a)) ∧ A' = A ∧ n' = n ∧ tx' = tx) := by
  refine CW.start [some (.ref (E.o 0)), some (.int (nI (40 + j))), none, none] hE (by decide) (Nat.le_of_ble_eq_true rfl) rfl ?_
  intro p e s m args below meth c G
  refine v_iload_n G (decAt dd_RC_does 0 rfl) rfl ?_
  refine v_tswOut G 328 (decAt dd_RC_does 1 rfl) (Or.inr (by rw [nI_toInt (by omega)]; omega)) (by decide) ?_
  refine v_aload_n G (decAt dd_RC_does 160 rfl) rfl ?_
  refine v_iload_n G (decAt dd_RC_does 161 rfl) rfl ?_
  refine v_callVvk G (As := [.int (nI (40 + j))]) (decAt dd_RC_does 162 rfl) k_RC_184 (c_RC_reckons_r l hE ha hb hj) (by decide) rfl rfl rfl (Nat.le_of_ble_eq_true rfl) (by decide) rfl rfl (by decide) ?_
  exact v_vret G (decAt dd_RC_does 163 rfl) rfl ⟨rfl, rfl, rfl, rfl, rfl, rfl⟩
set_option maxHeartbeats 4000000 in
theorem c_RC_does_o (l : Launch) {E : Bs} (hE : Hb E) {ρ : Nat → Nat} {g A : Nat → Nat → Int32} {n : Nat → Nat} {tx : Value} {a b : Int32} (ha : g 0 18 = a) (hb : g 0 19 = b) (h9 : n 9 = 80) {j : Nat} (hj : j < 11) (hz : ¬ ((j = 3 ∨ j = 4) ∧ a = 0)) : CW l E DC AC y_RC_does b_RC_does 4 none ({ frames := 3, cells := 0, slots := 0, locals := 66 } : Room) [.ref (E.o 0), .int (nI (20 + j))] ρ g A n tx (fun r ρ' g' A' n' tx' => r = none ∧ ρ' = ρ ∧ g' = up2 g 0 18 (opr j b a) ∧ A' = A ∧ n' = n ∧ tx' = tx) := by
  refine CW.start [some (.ref (E.o 0)), some (.int (nI (20 + j))), none, none] hE (by decide) (Nat.le_of_ble_eq_true rfl) rfl ?_
  intro p e s m args below meth c G
  refine v_iload_n G (decAt dd_RC_does 0 rfl) rfl ?_
  refine v_tswOut G 328 (decAt dd_RC_does 1 rfl) (Or.inr (by rw [nI_toInt (by omega)]; omega)) (by decide) ?_
  refine v_aload_n G (decAt dd_RC_does 160 rfl) rfl ?_
  refine v_iload_n G (decAt dd_RC_does 161 rfl) rfl ?_
  refine v_callVvk G (As := [.int (nI (20 + j))]) (decAt dd_RC_does 162 rfl) k_RC_184 (c_RC_reckons_o l hE ha hb hj hz) (by decide) rfl rfl rfl (Nat.le_of_ble_eq_true rfl) (by decide) rfl rfl (by decide) ?_
  exact v_vret G (decAt dd_RC_does 163 rfl) rfl ⟨rfl, rfl, rfl, rfl, rfl, rfl⟩
set_option maxHeartbeats 4000000 in
theorem c_RC_does_ot (l : Launch) (hNT : NT l) {E : Bs} (hE : Hb E) {ρ : Nat → Nat} {g A : Nat → Nat → Int32} {n : Nat → Nat} {tx : Value} {a b : Int32} (ha : g 0 18 = a) (hb : g 0 19 = b) (h9 : n 9 = 80) {j : Nat} (hj : j < 11) (hz : (j = 3 ∨ j = 4) ∧ a = 0) : CTh l E DC AC (EnC E 3) y_RC_does b_RC_does 4 none ({ frames := 8, cells := 1, slots := 7, locals := 134 } : Room) [.ref (E.o 0), .int (nI (20 + j))] ρ g A n tx (fun ρ' g' A' n' tx' => ρ' = ρ ∧ g' = g ∧ A' = A ∧ n' = n ∧ tx' = tx) := by
  refine CTh.start [some (.ref (E.o 0)), some (.int (nI (20 + j))), none, none] hE (by decide) (Nat.le_of_ble_eq_true rfl) rfl tm_643 ?_
  intro p e s m args below meth c G hne
  refine v_iload_n G (decAt dd_RC_does 0 rfl) rfl ?_
  refine v_tswOut G 328 (decAt dd_RC_does 1 rfl) (Or.inr (by rw [nI_toInt (by omega)]; omega)) (by decide) ?_
  refine v_aload_n G (decAt dd_RC_does 160 rfl) rfl ?_
  refine v_iload_n G (decAt dd_RC_does 161 rfl) rfl ?_
  exact v_throwV G hne (As := [.int (nI (20 + j))]) (decAt dd_RC_does 162 rfl) k_RC_184 (c_RC_reckons_t l hNT hE ha hb hz) (by decide) rfl rfl rfl (Nat.le_of_ble_eq_true rfl) (by decide) (by decide) (by decide) (by decide) (fun _ _ _ _ _ hq => hq)
