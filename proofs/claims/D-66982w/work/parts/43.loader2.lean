/-! Loader: instruction -/
set_option maxHeartbeats 4000000 in
theorem c_LD_ins_0 (l : Launch) {E : Bs} (hE : Hb E) {ρ : Nat → Nat} {g A : Nat → Nat → Int32} {n : Nat → Nat} {v : Int32} {at_ mm wt : Nat} (hat : g 5 5 = nI at_) (hm : g 5 1 = nI mm) (hw : g 5 4 = nI wt) (hml : mm < 4096) (hwl : wt ≤ 64) (h26 : n 26 = 4096) (h28 : n 28 = 64) (hb : n 25 = 4096) (hT : TxA (A 25) at_ ([] ++ (dec v ++ [10]))) (hle : at_ + 0 + (dec v).length + 1 ≤ n 25) : CW l E DC AC y_LD_instruction b_LD_instruction 5 none ({ frames := 4, cells := 0, slots := 0, locals := 91 } : Room) [.ref (E.o 5), .int 76] ρ g A n (.ref (E.o 4)) (fun r ρ' g' A' n' tx' => r = none ∧ ρ' = ρ ∧ g' = up2 (up2 g 5 5 (nI (at_ + 0 + (dec v).length + 1))) 5 1 (nI (mm + 1)) ∧ A' = va_up A 26 (va_up (A 26) mm (enc 0 v)) ∧ n' = n ∧ tx' = (.ref (E.o 4))) := by
  refine CW.start [some (.ref (E.o 5)), some (.int 76), none, none, none] hE (by decide) (Nat.le_of_ble_eq_true rfl) rfl ?_
  intro p e s m args below meth c G
  obtain ⟨hT1, hT2⟩ := TxA.app hT
  obtain ⟨d, r9, hdr, hdd⟩ := dec_head v
  obtain ⟨n73, n80, n81, n76⟩ := dh_ne hdd
  have hd0 : A 25 (at_ + 0) = d := by rw [hdr] at hT2; exact (TxA.cons hT2).1
  refine q_ldcs G (i := 16) (decAt dd_LD_instruction 0 rfl) rfl rfl rfl ?_
  refine v_iload_n G (decAt dd_LD_instruction 1 rfl) rfl ?_
  refine v_i2c G (v := 76) (decAt dd_LD_instruction 2 rfl) (by decide) ?_
  refine p_callVi G (XB_Sy G) (As := [.int (sby 16 1)]) (decAt dd_LD_instruction 3 rfl) k_LD_68 (c_ST_indexOf_0 l hE (j := 1) (by decide)) (q_recv G XS_Sy (by decide)) rfl rfl (Nat.le_of_ble_eq_true rfl) (by decide) rfl rfl (by decide) ?_
  refine v_bipush G 28 (decAt dd_LD_instruction 4 rfl) (by decide) ?_
  refine v_ishl G (decAt dd_LD_instruction 5 rfl) ?_
  refine v_ri (y := 268435456) (by decide) ?_
  refine v_istore_2 G (decAt dd_LD_instruction 6 rfl) (by decide) rfl ?_
  refine v_iconst G 0 (decAt dd_LD_instruction 7 rfl) (by decide) ?_
  refine v_istore_3 G (decAt dd_LD_instruction 8 rfl) (by decide) rfl ?_
  refine v_aload_n G (decAt dd_LD_instruction 9 rfl) rfl ?_
  refine v_gett G (decAt dd_LD_instruction 10 rfl) f_LD_31 ?_
  refine v_geta G (decAt dd_LD_instruction 11 rfl) f_LD_35 ?_
  refine v_aload_n G (decAt dd_LD_instruction 12 rfl) rfl ?_
  refine v_geti G (decAt dd_LD_instruction 13 rfl) f_LD_41 ?_
  refine v_ri (y := nI (at_ + 0)) hat ?_
  refine v_bald G 25 (at_ + 0) (decAt dd_LD_instruction 14 rfl) (by decide) rfl rfl (by omega) ?_
  refine v_ri (y := d) hd0 ?_
  refine v_istore_4 G (decAt dd_LD_instruction 15 rfl) (by decide) rfl ?_
  refine v_iload G (decAt dd_LD_instruction 16 rfl) rfl ?_
  refine v_bipush G 73 (decAt dd_LD_instruction 17 rfl) (by decide) ?_
  refine v_icmp_ne G 42 (decAt dd_LD_instruction 18 rfl) (by decide) (fun _ => ?_) (fun z => absurd z n73)
  refine v_iload G (decAt dd_LD_instruction 24 rfl) rfl ?_
  refine v_bipush G 80 (decAt dd_LD_instruction 25 rfl) (by decide) ?_
  refine v_icmp_ne G 57 (decAt dd_LD_instruction 26 rfl) (by decide) (fun _ => ?_) (fun z => absurd z n80)
  refine v_iload G (decAt dd_LD_instruction 32 rfl) rfl ?_
  refine v_bipush G 81 (decAt dd_LD_instruction 33 rfl) (by decide) ?_
  refine v_icmp_ne G 72 (decAt dd_LD_instruction 34 rfl) (by decide) (fun _ => ?_) (fun z => absurd z n81)
  refine v_iload G (decAt dd_LD_instruction 40 rfl) rfl ?_
  refine v_bipush G 76 (decAt dd_LD_instruction 41 rfl) (by decide) ?_
  refine v_icmp_ne G 94 (decAt dd_LD_instruction 42 rfl) (by decide) (fun _ => ?_) (fun z => absurd z n76)
  refine v_iload_n G (decAt dd_LD_instruction 52 rfl) rfl ?_
  refine v_aload_n G (decAt dd_LD_instruction 53 rfl) rfl ?_
  refine v_callVik G (As := []) (decAt dd_LD_instruction 54 rfl) k_LD_49 (c_LD_number l hE (v := v) (at_ := at_ + 0) (g := g) hat hT2 (by omega) hb) (by decide) rfl rfl rfl (Nat.le_of_ble_eq_true rfl) (by decide) rfl rfl (by decide) ?_
  refine v_ldc G (decAt dd_LD_instruction 55 rfl) tm_624 ?_
  refine v_iand G (decAt dd_LD_instruction 56 rfl) ?_
  refine v_ior G (decAt dd_LD_instruction 57 rfl) ?_
  refine v_ri (y := enc 0 v) rfl ?_
  refine v_istore_2 G (decAt dd_LD_instruction 58 rfl) (by decide) rfl ?_
  refine v_iload_n G (decAt dd_LD_instruction 59 rfl) rfl ?_
  refine v_if_eq G 146 (decAt dd_LD_instruction 60 rfl) (by decide) (fun _ => ?_) (fun c105 => absurd c105 (by decide))
  refine v_aload_n G (decAt dd_LD_instruction 81 rfl) rfl ?_
  refine v_iload_n G (decAt dd_LD_instruction 82 rfl) rfl ?_
  refine v_callVvk G (As := [.int (enc 0 v)]) (decAt dd_LD_instruction 83 rfl) k_LD_57 (c_LD_word l hE (w := enc 0 v) (mm := mm) ((up2_ne (by decide)).trans hm) hml h26) (by decide) rfl rfl rfl (Nat.le_of_ble_eq_true rfl) (by decide) rfl rfl (by decide) ?_
  exact v_vret G (decAt dd_LD_instruction 84 rfl) rfl ⟨rfl, rfl, rfl, rfl, rfl, rfl⟩
set_option maxHeartbeats 4000000 in
theorem c_LD_ins_1 (l : Launch) {E : Bs} (hE : Hb E) {ρ : Nat → Nat} {g A : Nat → Nat → Int32} {n : Nat → Nat} {v : Int32} {at_ mm wt : Nat} (hat : g 5 5 = nI at_) (hm : g 5 1 = nI mm) (hw : g 5 4 = nI wt) (hml : mm < 4096) (hwl : wt < 64) (h26 : n 26 = 4096) (h28 : n 28 = 64) (hb : n 25 = 4096) (hT : TxA (A 25) at_ ([73, 76] ++ (dec v ++ [10]))) (hle : at_ + 2 + (dec v).length + 1 ≤ n 25) : CW l E DC AC y_LD_instruction b_LD_instruction 5 none ({ frames := 4, cells := 0, slots := 0, locals := 91 } : Room) [.ref (E.o 5), .int 76] ρ g A n (.ref (E.o 4)) (fun r ρ' g' A' n' tx' => r = none ∧ ρ' = ρ ∧ g' = up2 (up2 (up2 g 5 5 (nI (at_ + 2 + (dec v).length + 1))) 5 4 (nI (wt + 1))) 5 1 (nI (mm + 1)) ∧ A' = va_up (va_up A 28 (va_up (A 28) wt (nI mm))) 26 (va_up (A 26) mm (enc 1 v)) ∧ n' = n ∧ tx' = (.ref (E.o 4))) := by
  refine CW.start [some (.ref (E.o 5)), some (.int 76), none, none, none] hE (by decide) (Nat.le_of_ble_eq_true rfl) rfl ?_
  intro p e s m args below meth c G
  obtain ⟨hT1, hT2⟩ := TxA.app hT
  obtain ⟨d, r9, hdr, hdd⟩ := dec_head v
  obtain ⟨n73, n80, n81, n76⟩ := dh_ne hdd
  have hd0 : A 25 (at_ + 2) = d := by rw [hdr] at hT2; exact (TxA.cons hT2).1
  have hc0 : A 25 (at_ + 0) = 73 := hT1 0 _ rfl
  have hc1 : A 25 (at_ + 1) = 76 := hT1 1 _ rfl
  refine q_ldcs G (i := 16) (decAt dd_LD_instruction 0 rfl) rfl rfl rfl ?_
  refine v_iload_n G (decAt dd_LD_instruction 1 rfl) rfl ?_
  refine v_i2c G (v := 76) (decAt dd_LD_instruction 2 rfl) (by decide) ?_
  refine p_callVi G (XB_Sy G) (As := [.int (sby 16 1)]) (decAt dd_LD_instruction 3 rfl) k_LD_68 (c_ST_indexOf_0 l hE (j := 1) (by decide)) (q_recv G XS_Sy (by decide)) rfl rfl (Nat.le_of_ble_eq_true rfl) (by decide) rfl rfl (by decide) ?_
  refine v_bipush G 28 (decAt dd_LD_instruction 4 rfl) (by decide) ?_
  refine v_ishl G (decAt dd_LD_instruction 5 rfl) ?_
  refine v_ri (y := 268435456) (by decide) ?_
  refine v_istore_2 G (decAt dd_LD_instruction 6 rfl) (by decide) rfl ?_
  refine v_iconst G 0 (decAt dd_LD_instruction 7 rfl) (by decide) ?_
  refine v_istore_3 G (decAt dd_LD_instruction 8 rfl) (by decide) rfl ?_
  refine v_aload_n G (decAt dd_LD_instruction 9 rfl) rfl ?_
  refine v_gett G (decAt dd_LD_instruction 10 rfl) f_LD_31 ?_
  refine v_geta G (decAt dd_LD_instruction 11 rfl) f_LD_35 ?_
  refine v_aload_n G (decAt dd_LD_instruction 12 rfl) rfl ?_
  refine v_geti G (decAt dd_LD_instruction 13 rfl) f_LD_41 ?_
  refine v_ri (y := nI (at_ + 0)) hat ?_
  refine v_bald G 25 (at_ + 0) (decAt dd_LD_instruction 14 rfl) (by decide) rfl rfl (by omega) ?_
  refine v_ri (y := 73) hc0 ?_
  refine v_istore_4 G (decAt dd_LD_instruction 15 rfl) (by decide) rfl ?_
  refine v_iload G (decAt dd_LD_instruction 16 rfl) rfl ?_
  refine v_bipush G 73 (decAt dd_LD_instruction 17 rfl) (by decide) ?_
  refine v_icmp_ne G 42 (decAt dd_LD_instruction 18 rfl) (by decide) (fun z => absurd rfl z) (fun _ => ?_)
  refine v_iload_n G (decAt dd_LD_instruction 19 rfl) rfl ?_
  refine v_ldc G (decAt dd_LD_instruction 20 rfl) tm_621 ?_
  refine v_ior G (decAt dd_LD_instruction 21 rfl) ?_
  refine v_ri (y := 402653184) (by decide) ?_
  refine v_istore_2 G (decAt dd_LD_instruction 22 rfl) (by decide) rfl ?_
  refine v_goto G 81 (decAt dd_LD_instruction 23 rfl) (by decide) ?_
  refine v_aload_n G (decAt dd_LD_instruction 45 rfl) rfl ?_
  refine v_dup G (decAt dd_LD_instruction 46 rfl) rfl ?_
  refine v_geti G (decAt dd_LD_instruction 47 rfl) f_LD_41 ?_
  refine v_ri (y := nI (at_ + 0)) hat ?_
  refine v_iconst G 1 (decAt dd_LD_instruction 48 rfl) (by decide) ?_
  refine v_iadd G (decAt dd_LD_instruction 49 rfl) ?_
  refine v_ri (y := nI (at_ + 0 + 1)) (nI_1 _) ?_
  refine v_puti G (decAt dd_LD_instruction 50 rfl) f_LD_41 rfl rfl rfl ?_
  refine v_goto G 13 (decAt dd_LD_instruction 51 rfl) (by decide) ?_
  refine v_aload_n G (decAt dd_LD_instruction 9 rfl) rfl ?_
  refine v_gett G (decAt dd_LD_instruction 10 rfl) f_LD_31 ?_
  refine v_geta G (decAt dd_LD_instruction 11 rfl) f_LD_35 ?_
  refine v_aload_n G (decAt dd_LD_instruction 12 rfl) rfl ?_
  refine v_geti G (decAt dd_LD_instruction 13 rfl) f_LD_41 ?_
  refine v_ri (y := nI (at_ + 1)) up2_self ?_
  refine v_bald G 25 (at_ + 1) (decAt dd_LD_instruction 14 rfl) (by decide) rfl rfl (by omega) ?_
  refine v_ri (y := 76) hc1 ?_
  refine v_istore_4 G (decAt dd_LD_instruction 15 rfl) (by decide) rfl ?_
  refine v_iload G (decAt dd_LD_instruction 16 rfl) rfl ?_
  refine v_bipush G 73 (decAt dd_LD_instruction 17 rfl) (by decide) ?_
  refine v_icmp_ne G 42 (decAt dd_LD_instruction 18 rfl) (by decide) (fun _ => ?_) (fun z => absurd z (by decide))
  refine v_iload G (decAt dd_LD_instruction 24 rfl) rfl ?_
  refine v_bipush G 80 (decAt dd_LD_instruction 25 rfl) (by decide) ?_
  refine v_icmp_ne G 57 (decAt dd_LD_instruction 26 rfl) (by decide) (fun _ => ?_) (fun z => absurd z (by decide))
  refine v_iload G (decAt dd_LD_instruction 32 rfl) rfl ?_
  refine v_bipush G 81 (decAt dd_LD_instruction 33 rfl) (by decide) ?_
  refine v_icmp_ne G 72 (decAt dd_LD_instruction 34 rfl) (by decide) (fun _ => ?_) (fun z => absurd z (by decide))
  refine v_iload G (decAt dd_LD_instruction 40 rfl) rfl ?_
  refine v_bipush G 76 (decAt dd_LD_instruction 41 rfl) (by decide) ?_
  refine v_icmp_ne G 94 (decAt dd_LD_instruction 42 rfl) (by decide) (fun z => absurd rfl z) (fun _ => ?_)
  refine v_iconst G 1 (decAt dd_LD_instruction 43 rfl) (by decide) ?_
  refine v_istore_3 G (decAt dd_LD_instruction 44 rfl) (by decide) rfl ?_
  refine v_aload_n G (decAt dd_LD_instruction 45 rfl) rfl ?_
  refine v_dup G (decAt dd_LD_instruction 46 rfl) rfl ?_
  refine v_geti G (decAt dd_LD_instruction 47 rfl) f_LD_41 ?_
  refine v_ri (y := nI (at_ + 1)) up2_self ?_
  refine v_iconst G 1 (decAt dd_LD_instruction 48 rfl) (by decide) ?_
  refine v_iadd G (decAt dd_LD_instruction 49 rfl) ?_
  refine v_ri (y := nI (at_ + 1 + 1)) (nI_1 _) ?_
  refine v_puti G (decAt dd_LD_instruction 50 rfl) f_LD_41 rfl rfl rfl ?_
  refine v_stg (up2_up2 _ _ _ _ _) ?_
  refine v_goto G 13 (decAt dd_LD_instruction 51 rfl) (by decide) ?_
  refine v_aload_n G (decAt dd_LD_instruction 9 rfl) rfl ?_
  refine v_gett G (decAt dd_LD_instruction 10 rfl) f_LD_31 ?_
  refine v_geta G (decAt dd_LD_instruction 11 rfl) f_LD_35 ?_
  refine v_aload_n G (decAt dd_LD_instruction 12 rfl) rfl ?_
  refine v_geti G (decAt dd_LD_instruction 13 rfl) f_LD_41 ?_
  refine v_ri (y := nI (at_ + 2)) up2_self ?_
  refine v_bald G 25 (at_ + 2) (decAt dd_LD_instruction 14 rfl) (by decide) rfl rfl (by omega) ?_
  refine v_ri (y := d) hd0 ?_
  refine v_istore_4 G (decAt dd_LD_instruction 15 rfl) (by decide) rfl ?_
  refine v_iload G (decAt dd_LD_instruction 16 rfl) rfl ?_
  refine v_bipush G 73 (decAt dd_LD_instruction 17 rfl) (by decide) ?_
  refine v_icmp_ne G 42 (decAt dd_LD_instruction 18 rfl) (by decide) (fun _ => ?_) (fun z => absurd z n73)
  refine v_iload G (decAt dd_LD_instruction 24 rfl) rfl ?_
  refine v_bipush G 80 (decAt dd_LD_instruction 25 rfl) (by decide) ?_
  refine v_icmp_ne G 57 (decAt dd_LD_instruction 26 rfl) (by decide) (fun _ => ?_) (fun z => absurd z n80)
  refine v_iload G (decAt dd_LD_instruction 32 rfl) rfl ?_
  refine v_bipush G 81 (decAt dd_LD_instruction 33 rfl) (by decide) ?_
  refine v_icmp_ne G 72 (decAt dd_LD_instruction 34 rfl) (by decide) (fun _ => ?_) (fun z => absurd z n81)
  refine v_iload G (decAt dd_LD_instruction 40 rfl) rfl ?_
  refine v_bipush G 76 (decAt dd_LD_instruction 41 rfl) (by decide) ?_
  refine v_icmp_ne G 94 (decAt dd_LD_instruction 42 rfl) (by decide) (fun _ => ?_) (fun z => absurd z n76)
  refine v_iload_n G (decAt dd_LD_instruction 52 rfl) rfl ?_
  refine v_aload_n G (decAt dd_LD_instruction 53 rfl) rfl ?_
  refine v_callVik G (As := []) (decAt dd_LD_instruction 54 rfl) k_LD_49 (c_LD_number l hE (v := v) (at_ := at_ + 2) (g := (up2 g 5 5 (nI (at_ + 2)))) up2_self hT2 (by omega) hb) (by decide) rfl rfl rfl (Nat.le_of_ble_eq_true rfl) (by decide) rfl rfl (by decide) ?_
  refine v_stg (up2_up2 _ _ _ _ _) ?_
  refine v_ldc G (decAt dd_LD_instruction 55 rfl) tm_624 ?_
  refine v_iand G (decAt dd_LD_instruction 56 rfl) ?_
  refine v_ior G (decAt dd_LD_instruction 57 rfl) ?_
  refine v_ri (y := enc 1 v) rfl ?_
  refine v_istore_2 G (decAt dd_LD_instruction 58 rfl) (by decide) rfl ?_
  refine v_iload_n G (decAt dd_LD_instruction 59 rfl) rfl ?_
  refine v_if_eq G 146 (decAt dd_LD_instruction 60 rfl) (by decide) (fun c105 => absurd c105 (by decide)) (fun _ => ?_)
  refine v_aload_n G (decAt dd_LD_instruction 61 rfl) rfl ?_
  refine v_aload_n G (decAt dd_LD_instruction 62 rfl) rfl ?_
  refine v_geta G (decAt dd_LD_instruction 63 rfl) f_LD_18 ?_
  refine v_aload_n G (decAt dd_LD_instruction 64 rfl) rfl ?_
  refine v_geti G (decAt dd_LD_instruction 65 rfl) f_LD_44 ?_
  refine v_ri (y := (nI wt)) ((up2_ne (by decide)).trans hw) ?_
  refine v_callSx G (As := [.ref (ρ 28), .int (nI wt)]) (decAt dd_LD_instruction 66 rfl) k_LD_53 (c_LD_longer_s l hE (i := 28) (k := wt) (by decide) rfl (by omega) (by omega)) rfl rfl (Nat.le_of_ble_eq_true rfl) (by decide) (by decide) ?_
  rintro r9 ρ9 g9 A9 n9 tx9 ⟨rfl, e1, e2, e3, e4, e5⟩
  replace e1 := e1.symm; subst e1; replace e2 := e2.symm; subst e2; replace e3 := e3.symm; subst e3; replace e4 := e4.symm; subst e4; replace e5 := e5.symm; subst e5
  refine v_puta G (decAt dd_LD_instruction 67 rfl) f_LD_18 rfl rfl rfl ?_
  refine v_aload_n G (decAt dd_LD_instruction 68 rfl) rfl ?_
  refine v_geta G (decAt dd_LD_instruction 69 rfl) f_LD_18 ?_
  refine v_aload_n G (decAt dd_LD_instruction 70 rfl) rfl ?_
  refine v_geti G (decAt dd_LD_instruction 71 rfl) f_LD_44 ?_
  refine v_ri (y := (nI wt)) ((up2_ne (by decide)).trans hw) ?_
  refine v_aload_n G (decAt dd_LD_instruction 72 rfl) rfl ?_
  refine v_geti G (decAt dd_LD_instruction 73 rfl) f_LD_21 ?_
  refine v_ri (y := (nI mm)) ((up2_ne (by decide)).trans hm) ?_
  refine v_iast G 28 wt (decAt dd_LD_instruction 74 rfl) (by decide) rfl rfl (by omega) ?_
  refine v_aload_n G (decAt dd_LD_instruction 75 rfl) rfl ?_
  refine v_dup G (decAt dd_LD_instruction 76 rfl) rfl ?_
  refine v_geti G (decAt dd_LD_instruction 77 rfl) f_LD_44 ?_
  refine v_ri (y := (nI wt)) ((up2_ne (by decide)).trans hw) ?_
  refine v_iconst G 1 (decAt dd_LD_instruction 78 rfl) (by decide) ?_
  refine v_iadd G (decAt dd_LD_instruction 79 rfl) ?_
  refine v_ri (y := (nI (wt + 1))) (nI_1 _) ?_
  refine v_puti G (decAt dd_LD_instruction 80 rfl) f_LD_44 rfl rfl rfl ?_
  refine v_aload_n G (decAt dd_LD_instruction 81 rfl) rfl ?_
  refine v_iload_n G (decAt dd_LD_instruction 82 rfl) rfl ?_
  refine v_callVvk G (As := [.int (enc 1 v)]) (decAt dd_LD_instruction 83 rfl) k_LD_57 (c_LD_word l hE (w := enc 1 v) (mm := mm) ((up2_ne (by decide)).trans ((up2_ne (by decide)).trans hm)) hml h26) (by decide) rfl rfl rfl (Nat.le_of_ble_eq_true rfl) (by decide) rfl rfl (by decide) ?_
  exact v_vret G (decAt dd_LD_instruction 84 rfl) rfl ⟨rfl, rfl, rfl, rfl, rfl, rfl⟩
set_option maxHeartbeats 4000000 in
theorem c_LD_ins_2 (l : Launch) {E : Bs} (hE : Hb E) {ρ : Nat → Nat} {g A : Nat → Nat → Int32} {n : Nat → Nat} {v : Int32} {at_ mm wt : Nat} (hat : g 5 5 = nI at_) (hm : g 5 1 = nI mm) (hw : g 5 4 = nI wt) (hml : mm < 4096) (hwl : wt ≤ 64) (h26 : n 26 = 4096) (h28 : n 28 = 64) (hb : n 25 = 4096) (hT : TxA (A 25) at_ ([73, 80] ++ (dec v ++ [10]))) (hle : at_ + 2 + (dec v).length + 1 ≤ n 25) : CW l E DC AC y_LD_instruction b_LD_instruction 5 none ({ frames := 4, cells := 0, slots := 0, locals := 91 } : Room) [.ref (E.o 5), .int 76] ρ g A n (.ref (E.o 4)) (fun r ρ' g' A' n' tx' => r = none ∧ ρ' = ρ ∧ g' = up2 (up2 g 5 5 (nI (at_ + 2 + (dec v).length + 1))) 5 1 (nI (mm + 1)) ∧ A' = va_up A 26 (va_up (A 26) mm (enc 2 v)) ∧ n' = n ∧ tx' = (.ref (E.o 4))) := by
  refine CW.start [some (.ref (E.o 5)), some (.int 76), none, none, none] hE (by decide) (Nat.le_of_ble_eq_true rfl) rfl ?_
  intro p e s m args below meth c G
  obtain ⟨hT1, hT2⟩ := TxA.app hT
  obtain ⟨d, r9, hdr, hdd⟩ := dec_head v
  obtain ⟨n73, n80, n81, n76⟩ := dh_ne hdd
  have hd0 : A 25 (at_ + 2) = d := by rw [hdr] at hT2; exact (TxA.cons hT2).1
  have hc0 : A 25 (at_ + 0) = 73 := hT1 0 _ rfl
  have hc1 : A 25 (at_ + 1) = 80 := hT1 1 _ rfl
  refine q_ldcs G (i := 16) (decAt dd_LD_instruction 0 rfl) rfl rfl rfl ?_
  refine v_iload_n G (decAt dd_LD_instruction 1 rfl) rfl ?_
  refine v_i2c G (v := 76) (decAt dd_LD_instruction 2 rfl) (by decide) ?_
  refine p_callVi G (XB_Sy G) (As := [.int (sby 16 1)]) (decAt dd_LD_instruction 3 rfl) k_LD_68 (c_ST_indexOf_0 l hE (j := 1) (by decide)) (q_recv G XS_Sy (by decide)) rfl rfl (Nat.le_of_ble_eq_true rfl) (by decide) rfl rfl (by decide) ?_
  refine v_bipush G 28 (decAt dd_LD_instruction 4 rfl) (by decide) ?_
  refine v_ishl G (decAt dd_LD_instruction 5 rfl) ?_
  refine v_ri (y := 268435456) (by decide) ?_
  refine v_istore_2 G (decAt dd_LD_instruction 6 rfl) (by decide) rfl ?_
  refine v_iconst G 0 (decAt dd_LD_instruction 7 rfl) (by decide) ?_
  refine v_istore_3 G (decAt dd_LD_instruction 8 rfl) (by decide) rfl ?_
  refine v_aload_n G (decAt dd_LD_instruction 9 rfl) rfl ?_
  refine v_gett G (decAt dd_LD_instruction 10 rfl) f_LD_31 ?_
  refine v_geta G (decAt dd_LD_instruction 11 rfl) f_LD_35 ?_
  refine v_aload_n G (decAt dd_LD_instruction 12 rfl) rfl ?_
  refine v_geti G (decAt dd_LD_instruction 13 rfl) f_LD_41 ?_
  refine v_ri (y := nI (at_ + 0)) hat ?_
  refine v_bald G 25 (at_ + 0) (decAt dd_LD_instruction 14 rfl) (by decide) rfl rfl (by omega) ?_
  refine v_ri (y := 73) hc0 ?_
  refine v_istore_4 G (decAt dd_LD_instruction 15 rfl) (by decide) rfl ?_
  refine v_iload G (decAt dd_LD_instruction 16 rfl) rfl ?_
  refine v_bipush G 73 (decAt dd_LD_instruction 17 rfl) (by decide) ?_
  refine v_icmp_ne G 42 (decAt dd_LD_instruction 18 rfl) (by decide) (fun z => absurd rfl z) (fun _ => ?_)
  refine v_iload_n G (decAt dd_LD_instruction 19 rfl) rfl ?_
  refine v_ldc G (decAt dd_LD_instruction 20 rfl) tm_621 ?_
  refine v_ior G (decAt dd_LD_instruction 21 rfl) ?_
  refine v_ri (y := 402653184) (by decide) ?_
  refine v_istore_2 G (decAt dd_LD_instruction 22 rfl) (by decide) rfl ?_
  refine v_goto G 81 (decAt dd_LD_instruction 23 rfl) (by decide) ?_
  refine v_aload_n G (decAt dd_LD_instruction 45 rfl) rfl ?_
  refine v_dup G (decAt dd_LD_instruction 46 rfl) rfl ?_
  refine v_geti G (decAt dd_LD_instruction 47 rfl) f_LD_41 ?_
  refine v_ri (y := nI (at_ + 0)) hat ?_
  refine v_iconst G 1 (decAt dd_LD_instruction 48 rfl) (by decide) ?_
  refine v_iadd G (decAt dd_LD_instruction 49 rfl) ?_
  refine v_ri (y := nI (at_ + 0 + 1)) (nI_1 _) ?_
  refine v_puti G (decAt dd_LD_instruction 50 rfl) f_LD_41 rfl rfl rfl ?_
  refine v_goto G 13 (decAt dd_LD_instruction 51 rfl) (by decide) ?_
  refine v_aload_n G (decAt dd_LD_instruction 9 rfl) rfl ?_
  refine v_gett G (decAt dd_LD_instruction 10 rfl) f_LD_31 ?_
  refine v_geta G (decAt dd_LD_instruction 11 rfl) f_LD_35 ?_
  refine v_aload_n G (decAt dd_LD_instruction 12 rfl) rfl ?_
  refine v_geti G (decAt dd_LD_instruction 13 rfl) f_LD_41 ?_
  refine v_ri (y := nI (at_ + 1)) up2_self ?_
  refine v_bald G 25 (at_ + 1) (decAt dd_LD_instruction 14 rfl) (by decide) rfl rfl (by omega) ?_
  refine v_ri (y := 80) hc1 ?_
  refine v_istore_4 G (decAt dd_LD_instruction 15 rfl) (by decide) rfl ?_
  refine v_iload G (decAt dd_LD_instruction 16 rfl) rfl ?_
  refine v_bipush G 73 (decAt dd_LD_instruction 17 rfl) (by decide) ?_
  refine v_icmp_ne G 42 (decAt dd_LD_instruction 18 rfl) (by decide) (fun _ => ?_) (fun z => absurd z (by decide))
  refine v_iload G (decAt dd_LD_instruction 24 rfl) rfl ?_
  refine v_bipush G 80 (decAt dd_LD_instruction 25 rfl) (by decide) ?_
  refine v_icmp_ne G 57 (decAt dd_LD_instruction 26 rfl) (by decide) (fun z => absurd rfl z) (fun _ => ?_)
  refine v_iload_n G (decAt dd_LD_instruction 27 rfl) rfl ?_
  refine v_ldc G (decAt dd_LD_instruction 28 rfl) tm_622 ?_
  refine v_ior G (decAt dd_LD_instruction 29 rfl) ?_
  refine v_ri (y := 469762048) (by decide) ?_
  refine v_istore_2 G (decAt dd_LD_instruction 30 rfl) (by decide) rfl ?_
  refine v_goto G 81 (decAt dd_LD_instruction 31 rfl) (by decide) ?_
  refine v_aload_n G (decAt dd_LD_instruction 45 rfl) rfl ?_
  refine v_dup G (decAt dd_LD_instruction 46 rfl) rfl ?_
  refine v_geti G (decAt dd_LD_instruction 47 rfl) f_LD_41 ?_
  refine v_ri (y := nI (at_ + 1)) up2_self ?_
  refine v_iconst G 1 (decAt dd_LD_instruction 48 rfl) (by decide) ?_
  refine v_iadd G (decAt dd_LD_instruction 49 rfl) ?_
  refine v_ri (y := nI (at_ + 1 + 1)) (nI_1 _) ?_
  refine v_puti G (decAt dd_LD_instruction 50 rfl) f_LD_41 rfl rfl rfl ?_
  refine v_stg (up2_up2 _ _ _ _ _) ?_
  refine v_goto G 13 (decAt dd_LD_instruction 51 rfl) (by decide) ?_
  refine v_aload_n G (decAt dd_LD_instruction 9 rfl) rfl ?_
  refine v_gett G (decAt dd_LD_instruction 10 rfl) f_LD_31 ?_
  refine v_geta G (decAt dd_LD_instruction 11 rfl) f_LD_35 ?_
  refine v_aload_n G (decAt dd_LD_instruction 12 rfl) rfl ?_
  refine v_geti G (decAt dd_LD_instruction 13 rfl) f_LD_41 ?_
  refine v_ri (y := nI (at_ + 2)) up2_self ?_
  refine v_bald G 25 (at_ + 2) (decAt dd_LD_instruction 14 rfl) (by decide) rfl rfl (by omega) ?_
  refine v_ri (y := d) hd0 ?_
  refine v_istore_4 G (decAt dd_LD_instruction 15 rfl) (by decide) rfl ?_
  refine v_iload G (decAt dd_LD_instruction 16 rfl) rfl ?_
  refine v_bipush G 73 (decAt dd_LD_instruction 17 rfl) (by decide) ?_
  refine v_icmp_ne G 42 (decAt dd_LD_instruction 18 rfl) (by decide) (fun _ => ?_) (fun z => absurd z n73)
  refine v_iload G (decAt dd_LD_instruction 24 rfl) rfl ?_
  refine v_bipush G 80 (decAt dd_LD_instruction 25 rfl) (by decide) ?_
  refine v_icmp_ne G 57 (decAt dd_LD_instruction 26 rfl) (by decide) (fun _ => ?_) (fun z => absurd z n80)
  refine v_iload G (decAt dd_LD_instruction 32 rfl) rfl ?_
  refine v_bipush G 81 (decAt dd_LD_instruction 33 rfl) (by decide) ?_
  refine v_icmp_ne G 72 (decAt dd_LD_instruction 34 rfl) (by decide) (fun _ => ?_) (fun z => absurd z n81)
  refine v_iload G (decAt dd_LD_instruction 40 rfl) rfl ?_
  refine v_bipush G 76 (decAt dd_LD_instruction 41 rfl) (by decide) ?_
  refine v_icmp_ne G 94 (decAt dd_LD_instruction 42 rfl) (by decide) (fun _ => ?_) (fun z => absurd z n76)
  refine v_iload_n G (decAt dd_LD_instruction 52 rfl) rfl ?_
  refine v_aload_n G (decAt dd_LD_instruction 53 rfl) rfl ?_
  refine v_callVik G (As := []) (decAt dd_LD_instruction 54 rfl) k_LD_49 (c_LD_number l hE (v := v) (at_ := at_ + 2) (g := (up2 g 5 5 (nI (at_ + 2)))) up2_self hT2 (by omega) hb) (by decide) rfl rfl rfl (Nat.le_of_ble_eq_true rfl) (by decide) rfl rfl (by decide) ?_
  refine v_stg (up2_up2 _ _ _ _ _) ?_
  refine v_ldc G (decAt dd_LD_instruction 55 rfl) tm_624 ?_
  refine v_iand G (decAt dd_LD_instruction 56 rfl) ?_
  refine v_ior G (decAt dd_LD_instruction 57 rfl) ?_
  refine v_ri (y := enc 2 v) rfl ?_
  refine v_istore_2 G (decAt dd_LD_instruction 58 rfl) (by decide) rfl ?_
  refine v_iload_n G (decAt dd_LD_instruction 59 rfl) rfl ?_
  refine v_if_eq G 146 (decAt dd_LD_instruction 60 rfl) (by decide) (fun _ => ?_) (fun c105 => absurd c105 (by decide))
  refine v_aload_n G (decAt dd_LD_instruction 81 rfl) rfl ?_
  refine v_iload_n G (decAt dd_LD_instruction 82 rfl) rfl ?_
  refine v_callVvk G (As := [.int (enc 2 v)]) (decAt dd_LD_instruction 83 rfl) k_LD_57 (c_LD_word l hE (w := enc 2 v) (mm := mm) ((up2_ne (by decide)).trans hm) hml h26) (by decide) rfl rfl rfl (Nat.le_of_ble_eq_true rfl) (by decide) rfl rfl (by decide) ?_
  exact v_vret G (decAt dd_LD_instruction 84 rfl) rfl ⟨rfl, rfl, rfl, rfl, rfl, rfl⟩
set_option maxHeartbeats 4000000 in
theorem c_LD_ins_5 (l : Launch) {E : Bs} (hE : Hb E) {ρ : Nat → Nat} {g A : Nat → Nat → Int32} {n : Nat → Nat} {v : Int32} {at_ mm wt : Nat} (hat : g 5 5 = nI at_) (hm : g 5 1 = nI mm) (hw : g 5 4 = nI wt) (hml : mm < 4096) (hwl : wt ≤ 64) (h26 : n 26 = 4096) (h28 : n 28 = 64) (hb : n 25 = 4096) (hT : TxA (A 25) at_ ([73, 81] ++ (dec v ++ [10]))) (hle : at_ + 2 + (dec v).length + 1 ≤ n 25) : CW l E DC AC y_LD_instruction b_LD_instruction 5 none ({ frames := 4, cells := 0, slots := 0, locals := 91 } : Room) [.ref (E.o 5), .int 76] ρ g A n (.ref (E.o 4)) (fun r ρ' g' A' n' tx' => r = none ∧ ρ' = ρ ∧ g' = up2 (up2 g 5 5 (nI (at_ + 2 + (dec v).length + 1))) 5 1 (nI (mm + 1)) ∧ A' = va_up A 26 (va_up (A 26) mm (enc 5 v)) ∧ n' = n ∧ tx' = (.ref (E.o 4))) := by
  refine CW.start [some (.ref (E.o 5)), some (.int 76), none, none, none] hE (by decide) (Nat.le_of_ble_eq_true rfl) rfl ?_
  intro p e s m args below meth c G
  obtain ⟨hT1, hT2⟩ := TxA.app hT
  obtain ⟨d, r9, hdr, hdd⟩ := dec_head v
  obtain ⟨n73, n80, n81, n76⟩ := dh_ne hdd
  have hd0 : A 25 (at_ + 2) = d := by rw [hdr] at hT2; exact (TxA.cons hT2).1
  have hc0 : A 25 (at_ + 0) = 73 := hT1 0 _ rfl
  have hc1 : A 25 (at_ + 1) = 81 := hT1 1 _ rfl
  refine q_ldcs G (i := 16) (decAt dd_LD_instruction 0 rfl) rfl rfl rfl ?_
  refine v_iload_n G (decAt dd_LD_instruction 1 rfl) rfl ?_
  refine v_i2c G (v := 76) (decAt dd_LD_instruction 2 rfl) (by decide) ?_
  refine p_callVi G (XB_Sy G) (As := [.int (sby 16 1)]) (decAt dd_LD_instruction 3 rfl) k_LD_68 (c_ST_indexOf_0 l hE (j := 1) (by decide)) (q_recv G XS_Sy (by decide)) rfl rfl (Nat.le_of_ble_eq_true rfl) (by decide) rfl rfl (by decide) ?_
  refine v_bipush G 28 (decAt dd_LD_instruction 4 rfl) (by decide) ?_
  refine v_ishl G (decAt dd_LD_instruction 5 rfl) ?_
  refine v_ri (y := 268435456) (by decide) ?_
  refine v_istore_2 G (decAt dd_LD_instruction 6 rfl) (by decide) rfl ?_
  refine v_iconst G 0 (decAt dd_LD_instruction 7 rfl) (by decide) ?_
  refine v_istore_3 G (decAt dd_LD_instruction 8 rfl) (by decide) rfl ?_
  refine v_aload_n G (decAt dd_LD_instruction 9 rfl) rfl ?_
  refine v_gett G (decAt dd_LD_instruction 10 rfl) f_LD_31 ?_
  refine v_geta G (decAt dd_LD_instruction 11 rfl) f_LD_35 ?_
  refine v_aload_n G (decAt dd_LD_instruction 12 rfl) rfl ?_
  refine v_geti G (decAt dd_LD_instruction 13 rfl) f_LD_41 ?_
  refine v_ri (y := nI (at_ + 0)) hat ?_
  refine v_bald G 25 (at_ + 0) (decAt dd_LD_instruction 14 rfl) (by decide) rfl rfl (by omega) ?_
  refine v_ri (y := 73) hc0 ?_
  refine v_istore_4 G (decAt dd_LD_instruction 15 rfl) (by decide) rfl ?_
  refine v_iload G (decAt dd_LD_instruction 16 rfl) rfl ?_
  refine v_bipush G 73 (decAt dd_LD_instruction 17 rfl) (by decide) ?_
  refine v_icmp_ne G 42 (decAt dd_LD_instruction 18 rfl) (by decide) (fun z => absurd rfl z) (fun _ => ?_)
  refine v_iload_n G (decAt dd_LD_instruction 19 rfl) rfl ?_
  refine v_ldc G (decAt dd_LD_instruction 20 rfl) tm_621 ?_
  refine v_ior G (decAt dd_LD_instruction 21 rfl) ?_
  refine v_ri (y := 402653184) (by decide) ?_
  refine v_istore_2 G (decAt dd_LD_instruction 22 rfl) (by decide) rfl ?_
  refine v_goto G 81 (decAt dd_LD_instruction 23 rfl) (by decide) ?_
  refine v_aload_n G (decAt dd_LD_instruction 45 rfl) rfl ?_
  refine v_dup G (decAt dd_LD_instruction 46 rfl) rfl ?_
  refine v_geti G (decAt dd_LD_instruction 47 rfl) f_LD_41 ?_
  refine v_ri (y := nI (at_ + 0)) hat ?_
  refine v_iconst G 1 (decAt dd_LD_instruction 48 rfl) (by decide) ?_
  refine v_iadd G (decAt dd_LD_instruction 49 rfl) ?_
  refine v_ri (y := nI (at_ + 0 + 1)) (nI_1 _) ?_
  refine v_puti G (decAt dd_LD_instruction 50 rfl) f_LD_41 rfl rfl rfl ?_
  refine v_goto G 13 (decAt dd_LD_instruction 51 rfl) (by decide) ?_
  refine v_aload_n G (decAt dd_LD_instruction 9 rfl) rfl ?_
  refine v_gett G (decAt dd_LD_instruction 10 rfl) f_LD_31 ?_
  refine v_geta G (decAt dd_LD_instruction 11 rfl) f_LD_35 ?_
  refine v_aload_n G (decAt dd_LD_instruction 12 rfl) rfl ?_
  refine v_geti G (decAt dd_LD_instruction 13 rfl) f_LD_41 ?_
  refine v_ri (y := nI (at_ + 1)) up2_self ?_
  refine v_bald G 25 (at_ + 1) (decAt dd_LD_instruction 14 rfl) (by decide) rfl rfl (by omega) ?_
  refine v_ri (y := 81) hc1 ?_
  refine v_istore_4 G (decAt dd_LD_instruction 15 rfl) (by decide) rfl ?_
  refine v_iload G (decAt dd_LD_instruction 16 rfl) rfl ?_
  refine v_bipush G 73 (decAt dd_LD_instruction 17 rfl) (by decide) ?_
  refine v_icmp_ne G 42 (decAt dd_LD_instruction 18 rfl) (by decide) (fun _ => ?_) (fun z => absurd z (by decide))
  refine v_iload G (decAt dd_LD_instruction 24 rfl) rfl ?_
  refine v_bipush G 80 (decAt dd_LD_instruction 25 rfl) (by decide) ?_
  refine v_icmp_ne G 57 (decAt dd_LD_instruction 26 rfl) (by decide) (fun _ => ?_) (fun z => absurd z (by decide))
  refine v_iload G (decAt dd_LD_instruction 32 rfl) rfl ?_
  refine v_bipush G 81 (decAt dd_LD_instruction 33 rfl) (by decide) ?_
  refine v_icmp_ne G 72 (decAt dd_LD_instruction 34 rfl) (by decide) (fun z => absurd rfl z) (fun _ => ?_)
  refine v_iload_n G (decAt dd_LD_instruction 35 rfl) rfl ?_
  refine v_ldc G (decAt dd_LD_instruction 36 rfl) tm_623 ?_
  refine v_ior G (decAt dd_LD_instruction 37 rfl) ?_
  refine v_ri (y := 436207616) (by decide) ?_
  refine v_istore_2 G (decAt dd_LD_instruction 38 rfl) (by decide) rfl ?_
  refine v_goto G 81 (decAt dd_LD_instruction 39 rfl) (by decide) ?_
  refine v_aload_n G (decAt dd_LD_instruction 45 rfl) rfl ?_
  refine v_dup G (decAt dd_LD_instruction 46 rfl) rfl ?_
  refine v_geti G (decAt dd_LD_instruction 47 rfl) f_LD_41 ?_
  refine v_ri (y := nI (at_ + 1)) up2_self ?_
  refine v_iconst G 1 (decAt dd_LD_instruction 48 rfl) (by decide) ?_
  refine v_iadd G (decAt dd_LD_instruction 49 rfl) ?_
  refine v_ri (y := nI (at_ + 1 + 1)) (nI_1 _) ?_
  refine v_puti G (decAt dd_LD_instruction 50 rfl) f_LD_41 rfl rfl rfl ?_
  refine v_stg (up2_up2 _ _ _ _ _) ?_
  refine v_goto G 13 (decAt dd_LD_instruction 51 rfl) (by decide) ?_
  refine v_aload_n G (decAt dd_LD_instruction 9 rfl) rfl ?_
  refine v_gett G (decAt dd_LD_instruction 10 rfl) f_LD_31 ?_
  refine v_geta G (decAt dd_LD_instruction 11 rfl) f_LD_35 ?_
  refine v_aload_n G (decAt dd_LD_instruction 12 rfl) rfl ?_
  refine v_geti G (decAt dd_LD_instruction 13 rfl) f_LD_41 ?_
  refine v_ri (y := nI (at_ + 2)) up2_self ?_
  refine v_bald G 25 (at_ + 2) (decAt dd_LD_instruction 14 rfl) (by decide) rfl rfl (by omega) ?_
  refine v_ri (y := d) hd0 ?_
  refine v_istore_4 G (decAt dd_LD_instruction 15 rfl) (by decide) rfl ?_
  refine v_iload G (decAt dd_LD_instruction 16 rfl) rfl ?_
  refine v_bipush G 73 (decAt dd_LD_instruction 17 rfl) (by decide) ?_
  refine v_icmp_ne G 42 (decAt dd_LD_instruction 18 rfl) (by decide) (fun _ => ?_) (fun z => absurd z n73)
  refine v_iload G (decAt dd_LD_instruction 24 rfl) rfl ?_
  refine v_bipush G 80 (decAt dd_LD_instruction 25 rfl) (by decide) ?_
  refine v_icmp_ne G 57 (decAt dd_LD_instruction 26 rfl) (by decide) (fun _ => ?_) (fun z => absurd z n80)
  refine v_iload G (decAt dd_LD_instruction 32 rfl) rfl ?_
  refine v_bipush G 81 (decAt dd_LD_instruction 33 rfl) (by decide) ?_
  refine v_icmp_ne G 72 (decAt dd_LD_instruction 34 rfl) (by decide) (fun _ => ?_) (fun z => absurd z n81)
  refine v_iload G (decAt dd_LD_instruction 40 rfl) rfl ?_
  refine v_bipush G 76 (decAt dd_LD_instruction 41 rfl) (by decide) ?_
  refine v_icmp_ne G 94 (decAt dd_LD_instruction 42 rfl) (by decide) (fun _ => ?_) (fun z => absurd z n76)
  refine v_iload_n G (decAt dd_LD_instruction 52 rfl) rfl ?_
  refine v_aload_n G (decAt dd_LD_instruction 53 rfl) rfl ?_
  refine v_callVik G (As := []) (decAt dd_LD_instruction 54 rfl) k_LD_49 (c_LD_number l hE (v := v) (at_ := at_ + 2) (g := (up2 g 5 5 (nI (at_ + 2)))) up2_self hT2 (by omega) hb) (by decide) rfl rfl rfl (Nat.le_of_ble_eq_true rfl) (by decide) rfl rfl (by decide) ?_
  refine v_stg (up2_up2 _ _ _ _ _) ?_
  refine v_ldc G (decAt dd_LD_instruction 55 rfl) tm_624 ?_
  refine v_iand G (decAt dd_LD_instruction 56 rfl) ?_
  refine v_ior G (decAt dd_LD_instruction 57 rfl) ?_
  refine v_ri (y := enc 5 v) rfl ?_
  refine v_istore_2 G (decAt dd_LD_instruction 58 rfl) (by decide) rfl ?_
  refine v_iload_n G (decAt dd_LD_instruction 59 rfl) rfl ?_
  refine v_if_eq G 146 (decAt dd_LD_instruction 60 rfl) (by decide) (fun _ => ?_) (fun c105 => absurd c105 (by decide))
  refine v_aload_n G (decAt dd_LD_instruction 81 rfl) rfl ?_
  refine v_iload_n G (decAt dd_LD_instruction 82 rfl) rfl ?_
  refine v_callVvk G (As := [.int (enc 5 v)]) (decAt dd_LD_instruction 83 rfl) k_LD_57 (c_LD_word l hE (w := enc 5 v) (mm := mm) ((up2_ne (by decide)).trans hm) hml h26) (by decide) rfl rfl rfl (Nat.le_of_ble_eq_true rfl) (by decide) rfl rfl (by decide) ?_
  exact v_vret G (decAt dd_LD_instruction 84 rfl) rfl ⟨rfl, rfl, rfl, rfl, rfl, rfl⟩
set_option maxHeartbeats 4000000 in
theorem c_LD_ins_6 (l : Launch) {E : Bs} (hE : Hb E) {ρ : Nat → Nat} {g A : Nat → Nat → Int32} {n : Nat → Nat} {v : Int32} {at_ mm wt : Nat} (hat : g 5 5 = nI at_) (hm : g 5 1 = nI mm) (hw : g 5 4 = nI wt) (hml : mm < 4096) (hwl : wt ≤ 64) (h26 : n 26 = 4096) (h28 : n 28 = 64) (hb : n 25 = 4096) (hT : TxA (A 25) at_ ([81] ++ (dec v ++ [10]))) (hle : at_ + 1 + (dec v).length + 1 ≤ n 25) : CW l E DC AC y_LD_instruction b_LD_instruction 5 none ({ frames := 4, cells := 0, slots := 0, locals := 91 } : Room) [.ref (E.o 5), .int 83] ρ g A n (.ref (E.o 4)) (fun r ρ' g' A' n' tx' => r = none ∧ ρ' = ρ ∧ g' = up2 (up2 g 5 5 (nI (at_ + 1 + (dec v).length + 1))) 5 1 (nI (mm + 1)) ∧ A' = va_up A 26 (va_up (A 26) mm (enc 6 v)) ∧ n' = n ∧ tx' = (.ref (E.o 4))) := by
  refine CW.start [some (.ref (E.o 5)), some (.int 83), none, none, none] hE (by decide) (Nat.le_of_ble_eq_true rfl) rfl ?_
  intro p e s m args below meth c G
  obtain ⟨hT1, hT2⟩ := TxA.app hT
  obtain ⟨d, r9, hdr, hdd⟩ := dec_head v
  obtain ⟨n73, n80, n81, n76⟩ := dh_ne hdd
  have hd0 : A 25 (at_ + 1) = d := by rw [hdr] at hT2; exact (TxA.cons hT2).1
  have hc0 : A 25 (at_ + 0) = 81 := hT1 0 _ rfl
  refine q_ldcs G (i := 16) (decAt dd_LD_instruction 0 rfl) rfl rfl rfl ?_
  refine v_iload_n G (decAt dd_LD_instruction 1 rfl) rfl ?_
  refine v_i2c G (v := 83) (decAt dd_LD_instruction 2 rfl) (by decide) ?_
  refine p_callVi G (XB_Sy G) (As := [.int (sby 16 2)]) (decAt dd_LD_instruction 3 rfl) k_LD_68 (c_ST_indexOf_0 l hE (j := 2) (by decide)) (q_recv G XS_Sy (by decide)) rfl rfl (Nat.le_of_ble_eq_true rfl) (by decide) rfl rfl (by decide) ?_
  refine v_bipush G 28 (decAt dd_LD_instruction 4 rfl) (by decide) ?_
  refine v_ishl G (decAt dd_LD_instruction 5 rfl) ?_
  refine v_ri (y := 536870912) (by decide) ?_
  refine v_istore_2 G (decAt dd_LD_instruction 6 rfl) (by decide) rfl ?_
  refine v_iconst G 0 (decAt dd_LD_instruction 7 rfl) (by decide) ?_
  refine v_istore_3 G (decAt dd_LD_instruction 8 rfl) (by decide) rfl ?_
  refine v_aload_n G (decAt dd_LD_instruction 9 rfl) rfl ?_
  refine v_gett G (decAt dd_LD_instruction 10 rfl) f_LD_31 ?_
  refine v_geta G (decAt dd_LD_instruction 11 rfl) f_LD_35 ?_
  refine v_aload_n G (decAt dd_LD_instruction 12 rfl) rfl ?_
  refine v_geti G (decAt dd_LD_instruction 13 rfl) f_LD_41 ?_
  refine v_ri (y := nI (at_ + 0)) hat ?_
  refine v_bald G 25 (at_ + 0) (decAt dd_LD_instruction 14 rfl) (by decide) rfl rfl (by omega) ?_
  refine v_ri (y := 81) hc0 ?_
  refine v_istore_4 G (decAt dd_LD_instruction 15 rfl) (by decide) rfl ?_
  refine v_iload G (decAt dd_LD_instruction 16 rfl) rfl ?_
  refine v_bipush G 73 (decAt dd_LD_instruction 17 rfl) (by decide) ?_
  refine v_icmp_ne G 42 (decAt dd_LD_instruction 18 rfl) (by decide) (fun _ => ?_) (fun z => absurd z (by decide))
  refine v_iload G (decAt dd_LD_instruction 24 rfl) rfl ?_
  refine v_bipush G 80 (decAt dd_LD_instruction 25 rfl) (by decide) ?_
  refine v_icmp_ne G 57 (decAt dd_LD_instruction 26 rfl) (by decide) (fun _ => ?_) (fun z => absurd z (by decide))
  refine v_iload G (decAt dd_LD_instruction 32 rfl) rfl ?_
  refine v_bipush G 81 (decAt dd_LD_instruction 33 rfl) (by decide) ?_
  refine v_icmp_ne G 72 (decAt dd_LD_instruction 34 rfl) (by decide) (fun z => absurd rfl z) (fun _ => ?_)
  refine v_iload_n G (decAt dd_LD_instruction 35 rfl) rfl ?_
  refine v_ldc G (decAt dd_LD_instruction 36 rfl) tm_623 ?_
  refine v_ior G (decAt dd_LD_instruction 37 rfl) ?_
  refine v_ri (y := 570425344) (by decide) ?_
  refine v_istore_2 G (decAt dd_LD_instruction 38 rfl) (by decide) rfl ?_
  refine v_goto G 81 (decAt dd_LD_instruction 39 rfl) (by decide) ?_
  refine v_aload_n G (decAt dd_LD_instruction 45 rfl) rfl ?_
  refine v_dup G (decAt dd_LD_instruction 46 rfl) rfl ?_
  refine v_geti G (decAt dd_LD_instruction 47 rfl) f_LD_41 ?_
  refine v_ri (y := nI (at_ + 0)) hat ?_
  refine v_iconst G 1 (decAt dd_LD_instruction 48 rfl) (by decide) ?_
  refine v_iadd G (decAt dd_LD_instruction 49 rfl) ?_
  refine v_ri (y := nI (at_ + 0 + 1)) (nI_1 _) ?_
  refine v_puti G (decAt dd_LD_instruction 50 rfl) f_LD_41 rfl rfl rfl ?_
  refine v_goto G 13 (decAt dd_LD_instruction 51 rfl) (by decide) ?_
  refine v_aload_n G (decAt dd_LD_instruction 9 rfl) rfl ?_
  refine v_gett G (decAt dd_LD_instruction 10 rfl) f_LD_31 ?_
  refine v_geta G (decAt dd_LD_instruction 11 rfl) f_LD_35 ?_
  refine v_aload_n G (decAt dd_LD_instruction 12 rfl) rfl ?_
  refine v_geti G (decAt dd_LD_instruction 13 rfl) f_LD_41 ?_
  refine v_ri (y := nI (at_ + 1)) up2_self ?_
  refine v_bald G 25 (at_ + 1) (decAt dd_LD_instruction 14 rfl) (by decide) rfl rfl (by omega) ?_
  refine v_ri (y := d) hd0 ?_
  refine v_istore_4 G (decAt dd_LD_instruction 15 rfl) (by decide) rfl ?_
  refine v_iload G (decAt dd_LD_instruction 16 rfl) rfl ?_
  refine v_bipush G 73 (decAt dd_LD_instruction 17 rfl) (by decide) ?_
  refine v_icmp_ne G 42 (decAt dd_LD_instruction 18 rfl) (by decide) (fun _ => ?_) (fun z => absurd z n73)
  refine v_iload G (decAt dd_LD_instruction 24 rfl) rfl ?_
  refine v_bipush G 80 (decAt dd_LD_instruction 25 rfl) (by decide) ?_
  refine v_icmp_ne G 57 (decAt dd_LD_instruction 26 rfl) (by decide) (fun _ => ?_) (fun z => absurd z n80)
  refine v_iload G (decAt dd_LD_instruction 32 rfl) rfl ?_
  refine v_bipush G 81 (decAt dd_LD_instruction 33 rfl) (by decide) ?_
  refine v_icmp_ne G 72 (decAt dd_LD_instruction 34 rfl) (by decide) (fun _ => ?_) (fun z => absurd z n81)
  refine v_iload G (decAt dd_LD_instruction 40 rfl) rfl ?_
  refine v_bipush G 76 (decAt dd_LD_instruction 41 rfl) (by decide) ?_
  refine v_icmp_ne G 94 (decAt dd_LD_instruction 42 rfl) (by decide) (fun _ => ?_) (fun z => absurd z n76)
  refine v_iload_n G (decAt dd_LD_instruction 52 rfl) rfl ?_
  refine v_aload_n G (decAt dd_LD_instruction 53 rfl) rfl ?_
  refine v_callVik G (As := []) (decAt dd_LD_instruction 54 rfl) k_LD_49 (c_LD_number l hE (v := v) (at_ := at_ + 1) (g := (up2 g 5 5 (nI (at_ + 1)))) up2_self hT2 (by omega) hb) (by decide) rfl rfl rfl (Nat.le_of_ble_eq_true rfl) (by decide) rfl rfl (by decide) ?_
  refine v_stg (up2_up2 _ _ _ _ _) ?_
  refine v_ldc G (decAt dd_LD_instruction 55 rfl) tm_624 ?_
  refine v_iand G (decAt dd_LD_instruction 56 rfl) ?_
  refine v_ior G (decAt dd_LD_instruction 57 rfl) ?_
  refine v_ri (y := enc 6 v) rfl ?_
  refine v_istore_2 G (decAt dd_LD_instruction 58 rfl) (by decide) rfl ?_
  refine v_iload_n G (decAt dd_LD_instruction 59 rfl) rfl ?_
  refine v_if_eq G 146 (decAt dd_LD_instruction 60 rfl) (by decide) (fun _ => ?_) (fun c105 => absurd c105 (by decide))
  refine v_aload_n G (decAt dd_LD_instruction 81 rfl) rfl ?_
  refine v_iload_n G (decAt dd_LD_instruction 82 rfl) rfl ?_
  refine v_callVvk G (As := [.int (enc 6 v)]) (decAt dd_LD_instruction 83 rfl) k_LD_57 (c_LD_word l hE (w := enc 6 v) (mm := mm) ((up2_ne (by decide)).trans hm) hml h26) (by decide) rfl rfl rfl (Nat.le_of_ble_eq_true rfl) (by decide) rfl rfl (by decide) ?_
  exact v_vret G (decAt dd_LD_instruction 84 rfl) rfl ⟨rfl, rfl, rfl, rfl, rfl, rfl⟩
set_option maxHeartbeats 4000000 in
theorem c_LD_ins_7 (l : Launch) {E : Bs} (hE : Hb E) {ρ : Nat → Nat} {g A : Nat → Nat → Int32} {n : Nat → Nat} {v : Int32} {at_ mm wt : Nat} (hat : g 5 5 = nI at_) (hm : g 5 1 = nI mm) (hw : g 5 4 = nI wt) (hml : mm < 4096) (hwl : wt ≤ 64) (h26 : n 26 = 4096) (h28 : n 28 = 64) (hb : n 25 = 4096) (hT : TxA (A 25) at_ ([80] ++ (dec v ++ [10]))) (hle : at_ + 1 + (dec v).length + 1 ≤ n 25) : CW l E DC AC y_LD_instruction b_LD_instruction 5 none ({ frames := 4, cells := 0, slots := 0, locals := 91 } : Room) [.ref (E.o 5), .int 83] ρ g A n (.ref (E.o 4)) (fun r ρ' g' A' n' tx' => r = none ∧ ρ' = ρ ∧ g' = up2 (up2 g 5 5 (nI (at_ + 1 + (dec v).length + 1))) 5 1 (nI (mm + 1)) ∧ A' = va_up A 26 (va_up (A 26) mm (enc 7 v)) ∧ n' = n ∧ tx' = (.ref (E.o 4))) := by
  refine CW.start [some (.ref (E.o 5)), some (.int 83), none, none, none] hE (by decide) (Nat.le_of_ble_eq_true rfl) rfl ?_
  intro p e s m args below meth c G
  obtain ⟨hT1, hT2⟩ := TxA.app hT
  obtain ⟨d, r9, hdr, hdd⟩ := dec_head v
  obtain ⟨n73, n80, n81, n76⟩ := dh_ne hdd
  have hd0 : A 25 (at_ + 1) = d := by rw [hdr] at hT2; exact (TxA.cons hT2).1
  have hc0 : A 25 (at_ + 0) = 80 := hT1 0 _ rfl
  refine q_ldcs G (i := 16) (decAt dd_LD_instruction 0 rfl) rfl rfl rfl ?_
  refine v_iload_n G (decAt dd_LD_instruction 1 rfl) rfl ?_
  refine v_i2c G (v := 83) (decAt dd_LD_instruction 2 rfl) (by decide) ?_
  refine p_callVi G (XB_Sy G) (As := [.int (sby 16 2)]) (decAt dd_LD_instruction 3 rfl) k_LD_68 (c_ST_indexOf_0 l hE (j := 2) (by decide)) (q_recv G XS_Sy (by decide)) rfl rfl (Nat.le_of_ble_eq_true rfl) (by decide) rfl rfl (by decide) ?_
  refine v_bipush G 28 (decAt dd_LD_instruction 4 rfl) (by decide) ?_
  refine v_ishl G (decAt dd_LD_instruction 5 rfl) ?_
  refine v_ri (y := 536870912) (by decide) ?_
  refine v_istore_2 G (decAt dd_LD_instruction 6 rfl) (by decide) rfl ?_
  refine v_iconst G 0 (decAt dd_LD_instruction 7 rfl) (by decide) ?_
  refine v_istore_3 G (decAt dd_LD_instruction 8 rfl) (by decide) rfl ?_
  refine v_aload_n G (decAt dd_LD_instruction 9 rfl) rfl ?_
  refine v_gett G (decAt dd_LD_instruction 10 rfl) f_LD_31 ?_
  refine v_geta G (decAt dd_LD_instruction 11 rfl) f_LD_35 ?_
  refine v_aload_n G (decAt dd_LD_instruction 12 rfl) rfl ?_
  refine v_geti G (decAt dd_LD_instruction 13 rfl) f_LD_41 ?_
  refine v_ri (y := nI (at_ + 0)) hat ?_
  refine v_bald G 25 (at_ + 0) (decAt dd_LD_instruction 14 rfl) (by decide) rfl rfl (by omega) ?_
  refine v_ri (y := 80) hc0 ?_
  refine v_istore_4 G (decAt dd_LD_instruction 15 rfl) (by decide) rfl ?_
  refine v_iload G (decAt dd_LD_instruction 16 rfl) rfl ?_
  refine v_bipush G 73 (decAt dd_LD_instruction 17 rfl) (by decide) ?_
  refine v_icmp_ne G 42 (decAt dd_LD_instruction 18 rfl) (by decide) (fun _ => ?_) (fun z => absurd z (by decide))
  refine v_iload G (decAt dd_LD_instruction 24 rfl) rfl ?_
  refine v_bipush G 80 (decAt dd_LD_instruction 25 rfl) (by decide) ?_
  refine v_icmp_ne G 57 (decAt dd_LD_instruction 26 rfl) (by decide) (fun z => absurd rfl z) (fun _ => ?_)
  refine v_iload_n G (decAt dd_LD_instruction 27 rfl) rfl ?_
  refine v_ldc G (decAt dd_LD_instruction 28 rfl) tm_622 ?_
  refine v_ior G (decAt dd_LD_instruction 29 rfl) ?_
  refine v_ri (y := 603979776) (by decide) ?_
  refine v_istore_2 G (decAt dd_LD_instruction 30 rfl) (by decide) rfl ?_
  refine v_goto G 81 (decAt dd_LD_instruction 31 rfl) (by decide) ?_
  refine v_aload_n G (decAt dd_LD_instruction 45 rfl) rfl ?_
  refine v_dup G (decAt dd_LD_instruction 46 rfl) rfl ?_
  refine v_geti G (decAt dd_LD_instruction 47 rfl) f_LD_41 ?_
  refine v_ri (y := nI (at_ + 0)) hat ?_
  refine v_iconst G 1 (decAt dd_LD_instruction 48 rfl) (by decide) ?_
  refine v_iadd G (decAt dd_LD_instruction 49 rfl) ?_
  refine v_ri (y := nI (at_ + 0 + 1)) (nI_1 _) ?_
  refine v_puti G (decAt dd_LD_instruction 50 rfl) f_LD_41 rfl rfl rfl ?_
  refine v_goto G 13 (decAt dd_LD_instruction 51 rfl) (by decide) ?_
  refine v_aload_n G (decAt dd_LD_instruction 9 rfl) rfl ?_
  refine v_gett G (decAt dd_LD_instruction 10 rfl) f_LD_31 ?_
  refine v_geta G (decAt dd_LD_instruction 11 rfl) f_LD_35 ?_
  refine v_aload_n G (decAt dd_LD_instruction 12 rfl) rfl ?_
  refine v_geti G (decAt dd_LD_instruction 13 rfl) f_LD_41 ?_
  refine v_ri (y := nI (at_ + 1)) up2_self ?_
  refine v_bald G 25 (at_ + 1) (decAt dd_LD_instruction 14 rfl) (by decide) rfl rfl (by omega) ?_
  refine v_ri (y := d) hd0 ?_
  refine v_istore_4 G (decAt dd_LD_instruction 15 rfl) (by decide) rfl ?_
  refine v_iload G (decAt dd_LD_instruction 16 rfl) rfl ?_
  refine v_bipush G 73 (decAt dd_LD_instruction 17 rfl) (by decide) ?_
  refine v_icmp_ne G 42 (decAt dd_LD_instruction 18 rfl) (by decide) (fun _ => ?_) (fun z => absurd z n73)
  refine v_iload G (decAt dd_LD_instruction 24 rfl) rfl ?_
  refine v_bipush G 80 (decAt dd_LD_instruction 25 rfl) (by decide) ?_
  refine v_icmp_ne G 57 (decAt dd_LD_instruction 26 rfl) (by decide) (fun _ => ?_) (fun z => absurd z n80)
  refine v_iload G (decAt dd_LD_instruction 32 rfl) rfl ?_
  refine v_bipush G 81 (decAt dd_LD_instruction 33 rfl) (by decide) ?_
  refine v_icmp_ne G 72 (decAt dd_LD_instruction 34 rfl) (by decide) (fun _ => ?_) (fun z => absurd z n81)
  refine v_iload G (decAt dd_LD_instruction 40 rfl) rfl ?_
  refine v_bipush G 76 (decAt dd_LD_instruction 41 rfl) (by decide) ?_
  refine v_icmp_ne G 94 (decAt dd_LD_instruction 42 rfl) (by decide) (fun _ => ?_) (fun z => absurd z n76)
  refine v_iload_n G (decAt dd_LD_instruction 52 rfl) rfl ?_
  refine v_aload_n G (decAt dd_LD_instruction 53 rfl) rfl ?_
  refine v_callVik G (As := []) (decAt dd_LD_instruction 54 rfl) k_LD_49 (c_LD_number l hE (v := v) (at_ := at_ + 1) (g := (up2 g 5 5 (nI (at_ + 1)))) up2_self hT2 (by omega) hb) (by decide) rfl rfl rfl (Nat.le_of_ble_eq_true rfl) (by decide) rfl rfl (by decide) ?_
  refine v_stg (up2_up2 _ _ _ _ _) ?_
  refine v_ldc G (decAt dd_LD_instruction 55 rfl) tm_624 ?_
  refine v_iand G (decAt dd_LD_instruction 56 rfl) ?_
  refine v_ior G (decAt dd_LD_instruction 57 rfl) ?_
  refine v_ri (y := enc 7 v) rfl ?_
  refine v_istore_2 G (decAt dd_LD_instruction 58 rfl) (by decide) rfl ?_
  refine v_iload_n G (decAt dd_LD_instruction 59 rfl) rfl ?_
  refine v_if_eq G 146 (decAt dd_LD_instruction 60 rfl) (by decide) (fun _ => ?_) (fun c105 => absurd c105 (by decide))
  refine v_aload_n G (decAt dd_LD_instruction 81 rfl) rfl ?_
  refine v_iload_n G (decAt dd_LD_instruction 82 rfl) rfl ?_
  refine v_callVvk G (As := [.int (enc 7 v)]) (decAt dd_LD_instruction 83 rfl) k_LD_57 (c_LD_word l hE (w := enc 7 v) (mm := mm) ((up2_ne (by decide)).trans hm) hml h26) (by decide) rfl rfl rfl (Nat.le_of_ble_eq_true rfl) (by decide) rfl rfl (by decide) ?_
  exact v_vret G (decAt dd_LD_instruction 84 rfl) rfl ⟨rfl, rfl, rfl, rfl, rfl, rfl⟩
set_option maxHeartbeats 4000000 in
theorem c_LD_ins_9 (l : Launch) {E : Bs} (hE : Hb E) {ρ : Nat → Nat} {g A : Nat → Nat → Int32} {n : Nat → Nat} {v : Int32} {at_ mm wt : Nat} (hat : g 5 5 = nI at_) (hm : g 5 1 = nI mm) (hw : g 5 4 = nI wt) (hml : mm < 4096) (hwl : wt ≤ 64) (h26 : n 26 = 4096) (h28 : n 28 = 64) (hb : n 25 = 4096) (hT : TxA (A 25) at_ ([] ++ (dec v ++ [10]))) (hle : at_ + 0 + (dec v).length + 1 ≤ n 25) : CW l E DC AC y_LD_instruction b_LD_instruction 5 none ({ frames := 4, cells := 0, slots := 0, locals := 91 } : Room) [.ref (E.o 5), .int 88] ρ g A n (.ref (E.o 4)) (fun r ρ' g' A' n' tx' => r = none ∧ ρ' = ρ ∧ g' = up2 (up2 g 5 5 (nI (at_ + 0 + (dec v).length + 1))) 5 1 (nI (mm + 1)) ∧ A' = va_up A 26 (va_up (A 26) mm (enc 9 v)) ∧ n' = n ∧ tx' = (.ref (E.o 4))) := by
  refine CW.start [some (.ref (E.o 5)), some (.int 88), none, none, none] hE (by decide) (Nat.le_of_ble_eq_true rfl) rfl ?_
  intro p e s m args below meth c G
  obtain ⟨hT1, hT2⟩ := TxA.app hT
  obtain ⟨d, r9, hdr, hdd⟩ := dec_head v
  obtain ⟨n73, n80, n81, n76⟩ := dh_ne hdd
  have hd0 : A 25 (at_ + 0) = d := by rw [hdr] at hT2; exact (TxA.cons hT2).1
  refine q_ldcs G (i := 16) (decAt dd_LD_instruction 0 rfl) rfl rfl rfl ?_
  refine v_iload_n G (decAt dd_LD_instruction 1 rfl) rfl ?_
  refine v_i2c G (v := 88) (decAt dd_LD_instruction 2 rfl) (by decide) ?_
  refine p_callVi G (XB_Sy G) (As := [.int (sby 16 7)]) (decAt dd_LD_instruction 3 rfl) k_LD_68 (c_ST_indexOf_0 l hE (j := 7) (by decide)) (q_recv G XS_Sy (by decide)) rfl rfl (Nat.le_of_ble_eq_true rfl) (by decide) rfl rfl (by decide) ?_
  refine v_bipush G 28 (decAt dd_LD_instruction 4 rfl) (by decide) ?_
  refine v_ishl G (decAt dd_LD_instruction 5 rfl) ?_
  refine v_ri (y := 1879048192) (by decide) ?_
  refine v_istore_2 G (decAt dd_LD_instruction 6 rfl) (by decide) rfl ?_
  refine v_iconst G 0 (decAt dd_LD_instruction 7 rfl) (by decide) ?_
  refine v_istore_3 G (decAt dd_LD_instruction 8 rfl) (by decide) rfl ?_
  refine v_aload_n G (decAt dd_LD_instruction 9 rfl) rfl ?_
  refine v_gett G (decAt dd_LD_instruction 10 rfl) f_LD_31 ?_
  refine v_geta G (decAt dd_LD_instruction 11 rfl) f_LD_35 ?_
  refine v_aload_n G (decAt dd_LD_instruction 12 rfl) rfl ?_
  refine v_geti G (decAt dd_LD_instruction 13 rfl) f_LD_41 ?_
  refine v_ri (y := nI (at_ + 0)) hat ?_
  refine v_bald G 25 (at_ + 0) (decAt dd_LD_instruction 14 rfl) (by decide) rfl rfl (by omega) ?_
  refine v_ri (y := d) hd0 ?_
  refine v_istore_4 G (decAt dd_LD_instruction 15 rfl) (by decide) rfl ?_
  refine v_iload G (decAt dd_LD_instruction 16 rfl) rfl ?_
  refine v_bipush G 73 (decAt dd_LD_instruction 17 rfl) (by decide) ?_
  refine v_icmp_ne G 42 (decAt dd_LD_instruction 18 rfl) (by decide) (fun _ => ?_) (fun z => absurd z n73)
  refine v_iload G (decAt dd_LD_instruction 24 rfl) rfl ?_
  refine v_bipush G 80 (decAt dd_LD_instruction 25 rfl) (by decide) ?_
  refine v_icmp_ne G 57 (decAt dd_LD_instruction 26 rfl) (by decide) (fun _ => ?_) (fun z => absurd z n80)
  refine v_iload G (decAt dd_LD_instruction 32 rfl) rfl ?_
  refine v_bipush G 81 (decAt dd_LD_instruction 33 rfl) (by decide) ?_
  refine v_icmp_ne G 72 (decAt dd_LD_instruction 34 rfl) (by decide) (fun _ => ?_) (fun z => absurd z n81)
  refine v_iload G (decAt dd_LD_instruction 40 rfl) rfl ?_
  refine v_bipush G 76 (decAt dd_LD_instruction 41 rfl) (by decide) ?_
  refine v_icmp_ne G 94 (decAt dd_LD_instruction 42 rfl) (by decide) (fun _ => ?_) (fun z => absurd z n76)
  refine v_iload_n G (decAt dd_LD_instruction 52 rfl) rfl ?_
  refine v_aload_n G (decAt dd_LD_instruction 53 rfl) rfl ?_
  refine v_callVik G (As := []) (decAt dd_LD_instruction 54 rfl) k_LD_49 (c_LD_number l hE (v := v) (at_ := at_ + 0) (g := g) hat hT2 (by omega) hb) (by decide) rfl rfl rfl (Nat.le_of_ble_eq_true rfl) (by decide) rfl rfl (by decide) ?_
  refine v_ldc G (decAt dd_LD_instruction 55 rfl) tm_624 ?_
  refine v_iand G (decAt dd_LD_instruction 56 rfl) ?_
  refine v_ior G (decAt dd_LD_instruction 57 rfl) ?_
  refine v_ri (y := enc 9 v) rfl ?_
  refine v_istore_2 G (decAt dd_LD_instruction 58 rfl) (by decide) rfl ?_
  refine v_iload_n G (decAt dd_LD_instruction 59 rfl) rfl ?_
  refine v_if_eq G 146 (decAt dd_LD_instruction 60 rfl) (by decide) (fun _ => ?_) (fun c105 => absurd c105 (by decide))
  refine v_aload_n G (decAt dd_LD_instruction 81 rfl) rfl ?_
  refine v_iload_n G (decAt dd_LD_instruction 82 rfl) rfl ?_
  refine v_callVvk G (As := [.int (enc 9 v)]) (decAt dd_LD_instruction 83 rfl) k_LD_57 (c_LD_word l hE (w := enc 9 v) (mm := mm) ((up2_ne (by decide)).trans hm) hml h26) (by decide) rfl rfl rfl (Nat.le_of_ble_eq_true rfl) (by decide) rfl rfl (by decide) ?_
  exact v_vret G (decAt dd_LD_instruction 84 rfl) rfl ⟨rfl, rfl, rfl, rfl, rfl, rfl⟩
set_option maxHeartbeats 4000000 in
theorem c_LD_ins_12 (l : Launch) {E : Bs} (hE : Hb E) {ρ : Nat → Nat} {g A : Nat → Nat → Int32} {n : Nat → Nat} {v : Int32} {at_ mm wt : Nat} (hat : g 5 5 = nI at_) (hm : g 5 1 = nI mm) (hw : g 5 4 = nI wt) (hml : mm < 4096) (hwl : wt < 64) (h26 : n 26 = 4096) (h28 : n 28 = 64) (hb : n 25 = 4096) (hT : TxA (A 25) at_ ([76] ++ (dec v ++ [10]))) (hle : at_ + 1 + (dec v).length + 1 ≤ n 25) : CW l E DC AC y_LD_instruction b_LD_instruction 5 none ({ frames := 4, cells := 0, slots := 0, locals := 91 } : Room) [.ref (E.o 5), .int 84] ρ g A n (.ref (E.o 4)) (fun r ρ' g' A' n' tx' => r = none ∧ ρ' = ρ ∧ g' = up2 (up2 (up2 g 5 5 (nI (at_ + 1 + (dec v).length + 1))) 5 4 (nI (wt + 1))) 5 1 (nI (mm + 1)) ∧ A' = va_up (va_up A 28 (va_up (A 28) wt (nI mm))) 26 (va_up (A 26) mm (enc 12 v)) ∧ n' = n ∧ tx' = (.ref (E.o 4))) := by
  refine CW.start [some (.ref (E.o 5)), some (.int 84), none, none, none] hE (by decide) (Nat.le_of_ble_eq_true rfl) rfl ?_
  intro p e s m args below meth c G
  obtain ⟨hT1, hT2⟩ := TxA.app hT
  obtain ⟨d, r9, hdr, hdd⟩ := dec_head v
  obtain ⟨n73, n80, n81, n76⟩ := dh_ne hdd
  have hd0 : A 25 (at_ + 1) = d := by rw [hdr] at hT2; exact (TxA.cons hT2).1
  have hc0 : A 25 (at_ + 0) = 76 := hT1 0 _ rfl
  refine q_ldcs G (i := 16) (decAt dd_LD_instruction 0 rfl) rfl rfl rfl ?_
  refine v_iload_n G (decAt dd_LD_instruction 1 rfl) rfl ?_
  refine v_i2c G (v := 84) (decAt dd_LD_instruction 2 rfl) (by decide) ?_
  refine p_callVi G (XB_Sy G) (As := [.int (sby 16 4)]) (decAt dd_LD_instruction 3 rfl) k_LD_68 (c_ST_indexOf_0 l hE (j := 4) (by decide)) (q_recv G XS_Sy (by decide)) rfl rfl (Nat.le_of_ble_eq_true rfl) (by decide) rfl rfl (by decide) ?_
  refine v_bipush G 28 (decAt dd_LD_instruction 4 rfl) (by decide) ?_
  refine v_ishl G (decAt dd_LD_instruction 5 rfl) ?_
  refine v_ri (y := 1073741824) (by decide) ?_
  refine v_istore_2 G (decAt dd_LD_instruction 6 rfl) (by decide) rfl ?_
  refine v_iconst G 0 (decAt dd_LD_instruction 7 rfl) (by decide) ?_
  refine v_istore_3 G (decAt dd_LD_instruction 8 rfl) (by decide) rfl ?_
  refine v_aload_n G (decAt dd_LD_instruction 9 rfl) rfl ?_
  refine v_gett G (decAt dd_LD_instruction 10 rfl) f_LD_31 ?_
  refine v_geta G (decAt dd_LD_instruction 11 rfl) f_LD_35 ?_
  refine v_aload_n G (decAt dd_LD_instruction 12 rfl) rfl ?_
  refine v_geti G (decAt dd_LD_instruction 13 rfl) f_LD_41 ?_
  refine v_ri (y := nI (at_ + 0)) hat ?_
  refine v_bald G 25 (at_ + 0) (decAt dd_LD_instruction 14 rfl) (by decide) rfl rfl (by omega) ?_
  refine v_ri (y := 76) hc0 ?_
  refine v_istore_4 G (decAt dd_LD_instruction 15 rfl) (by decide) rfl ?_
  refine v_iload G (decAt dd_LD_instruction 16 rfl) rfl ?_
  refine v_bipush G 73 (decAt dd_LD_instruction 17 rfl) (by decide) ?_
  refine v_icmp_ne G 42 (decAt dd_LD_instruction 18 rfl) (by decide) (fun _ => ?_) (fun z => absurd z (by decide))
  refine v_iload G (decAt dd_LD_instruction 24 rfl) rfl ?_
  refine v_bipush G 80 (decAt dd_LD_instruction 25 rfl) (by decide) ?_
  refine v_icmp_ne G 57 (decAt dd_LD_instruction 26 rfl) (by decide) (fun _ => ?_) (fun z => absurd z (by decide))
  refine v_iload G (decAt dd_LD_instruction 32 rfl) rfl ?_
  refine v_bipush G 81 (decAt dd_LD_instruction 33 rfl) (by decide) ?_
  refine v_icmp_ne G 72 (decAt dd_LD_instruction 34 rfl) (by decide) (fun _ => ?_) (fun z => absurd z (by decide))
  refine v_iload G (decAt dd_LD_instruction 40 rfl) rfl ?_
  refine v_bipush G 76 (decAt dd_LD_instruction 41 rfl) (by decide) ?_
  refine v_icmp_ne G 94 (decAt dd_LD_instruction 42 rfl) (by decide) (fun z => absurd rfl z) (fun _ => ?_)
  refine v_iconst G 1 (decAt dd_LD_instruction 43 rfl) (by decide) ?_
  refine v_istore_3 G (decAt dd_LD_instruction 44 rfl) (by decide) rfl ?_
  refine v_aload_n G (decAt dd_LD_instruction 45 rfl) rfl ?_
  refine v_dup G (decAt dd_LD_instruction 46 rfl) rfl ?_
  refine v_geti G (decAt dd_LD_instruction 47 rfl) f_LD_41 ?_
  refine v_ri (y := nI (at_ + 0)) hat ?_
  refine v_iconst G 1 (decAt dd_LD_instruction 48 rfl) (by decide) ?_
  refine v_iadd G (decAt dd_LD_instruction 49 rfl) ?_
  refine v_ri (y := nI (at_ + 0 + 1)) (nI_1 _) ?_
  refine v_puti G (decAt dd_LD_instruction 50 rfl) f_LD_41 rfl rfl rfl ?_
  refine v_goto G 13 (decAt dd_LD_instruction 51 rfl) (by decide) ?_
  refine v_aload_n G (decAt dd_LD_instruction 9 rfl) rfl ?_
  refine v_gett G (decAt dd_LD_instruction 10 rfl) f_LD_31 ?_
  refine v_geta G (decAt dd_LD_instruction 11 rfl) f_LD_35 ?_
  refine v_aload_n G (decAt dd_LD_instruction 12 rfl) rfl ?_
  refine v_geti G (decAt dd_LD_instruction 13 rfl) f_LD_41 ?_
  refine v_ri (y := nI (at_ + 1)) up2_self ?_
  refine v_bald G 25 (at_ + 1) (decAt dd_LD_instruction 14 rfl) (by decide) rfl rfl (by omega) ?_
  refine v_ri (y := d) hd0 ?_
  refine v_istore_4 G (decAt dd_LD_instruction 15 rfl) (by decide) rfl ?_
  refine v_iload G (decAt dd_LD_instruction 16 rfl) rfl ?_
  refine v_bipush G 73 (decAt dd_LD_instruction 17 rfl) (by decide) ?_
  refine v_icmp_ne G 42 (decAt dd_LD_instruction 18 rfl) (by decide) (fun _ => ?_) (fun z => absurd z n73)
  refine v_iload G (decAt dd_LD_instruction 24 rfl) rfl ?_
  refine v_bipush G 80 (decAt dd_LD_instruction 25 rfl) (by decide) ?_
  refine v_icmp_ne G 57 (decAt dd_LD_instruction 26 rfl) (by decide) (fun _ => ?_) (fun z => absurd z n80)
  refine v_iload G (decAt dd_LD_instruction 32 rfl) rfl ?_
  refine v_bipush G 81 (decAt dd_LD_instruction 33 rfl) (by decide) ?_
  refine v_icmp_ne G 72 (decAt dd_LD_instruction 34 rfl) (by decide) (fun _ => ?_) (fun z => absurd z n81)
  refine v_iload G (decAt dd_LD_instruction 40 rfl) rfl ?_
  refine v_bipush G 76 (decAt dd_LD_instruction 41 rfl) (by decide) ?_
  refine v_icmp_ne G 94 (decAt dd_LD_instruction 42 rfl) (by decide) (fun _ => ?_) (fun z => absurd z n76)
  refine v_iload_n G (decAt dd_LD_instruction 52 rfl) rfl ?_
  refine v_aload_n G (decAt dd_LD_instruction 53 rfl) rfl ?_
  refine v_callVik G (As := []) (decAt dd_LD_instruction 54 rfl) k_LD_49 (c_LD_number l hE (v := v) (at_ := at_ + 1) (g := (up2 g 5 5 (nI (at_ + 1)))) up2_self hT2 (by omega) hb) (by decide) rfl rfl rfl (Nat.le_of_ble_eq_true rfl) (by decide) rfl rfl (by decide) ?_
  refine v_stg (up2_up2 _ _ _ _ _) ?_
  refine v_ldc G (decAt dd_LD_instruction 55 rfl) tm_624 ?_
  refine v_iand G (decAt dd_LD_instruction 56 rfl) ?_
  refine v_ior G (decAt dd_LD_instruction 57 rfl) ?_
  refine v_ri (y := enc 12 v) rfl ?_
  refine v_istore_2 G (decAt dd_LD_instruction 58 rfl) (by decide) rfl ?_
  refine v_iload_n G (decAt dd_LD_instruction 59 rfl) rfl ?_
  refine v_if_eq G 146 (decAt dd_LD_instruction 60 rfl) (by decide) (fun c105 => absurd c105 (by decide)) (fun _ => ?_)
  refine v_aload_n G (decAt dd_LD_instruction 61 rfl) rfl ?_
  refine v_aload_n G (decAt dd_LD_instruction 62 rfl) rfl ?_
  refine v_geta G (decAt dd_LD_instruction 63 rfl) f_LD_18 ?_
  refine v_aload_n G (decAt dd_LD_instruction 64 rfl) rfl ?_
  refine v_geti G (decAt dd_LD_instruction 65 rfl) f_LD_44 ?_
  refine v_ri (y := (nI wt)) ((up2_ne (by decide)).trans hw) ?_
  refine v_callSx G (As := [.ref (ρ 28), .int (nI wt)]) (decAt dd_LD_instruction 66 rfl) k_LD_53 (c_LD_longer_s l hE (i := 28) (k := wt) (by decide) rfl (by omega) (by omega)) rfl rfl (Nat.le_of_ble_eq_true rfl) (by decide) (by decide) ?_
  rintro r9 ρ9 g9 A9 n9 tx9 ⟨rfl, e1, e2, e3, e4, e5⟩
  replace e1 := e1.symm; subst e1; replace e2 := e2.symm; subst e2; replace e3 := e3.symm; subst e3; replace e4 := e4.symm; subst e4; replace e5 := e5.symm; subst e5
  refine v_puta G (decAt dd_LD_instruction 67 rfl) f_LD_18 rfl rfl rfl ?_
  refine v_aload_n G (decAt dd_LD_instruction 68 rfl) rfl ?_
  refine v_geta G (decAt dd_LD_instruction 69 rfl) f_LD_18 ?_
  refine v_aload_n G (decAt dd_LD_instruction 70 rfl) rfl ?_
  refine v_geti G (decAt dd_LD_instruction 71 rfl) f_LD_44 ?_
  refine v_ri (y := (nI wt)) ((up2_ne (by decide)).trans hw) ?_
  refine v_aload_n G (decAt dd_LD_instruction 72 rfl) rfl ?_
  refine v_geti G (decAt dd_LD_instruction 73 rfl) f_LD_21 ?_
  refine v_ri (y := (nI mm)) ((up2_ne (by decide)).trans hm) ?_
  refine v_iast G 28 wt (decAt dd_LD_instruction 74 rfl) (by decide) rfl rfl (by omega) ?_
  refine v_aload_n G (decAt dd_LD_instruction 75 rfl) rfl ?_
  refine v_dup G (decAt dd_LD_instruction 76 rfl) rfl ?_
  refine v_geti G (decAt dd_LD_instruction 77 rfl) f_LD_44 ?_
  refine v_ri (y := (nI wt)) ((up2_ne (by decide)).trans hw) ?_
  refine v_iconst G 1 (decAt dd_LD_instruction 78 rfl) (by decide) ?_
  refine v_iadd G (decAt dd_LD_instruction 79 rfl) ?_
  refine v_ri (y := (nI (wt + 1))) (nI_1 _) ?_
  refine v_puti G (decAt dd_LD_instruction 80 rfl) f_LD_44 rfl rfl rfl ?_
  refine v_aload_n G (decAt dd_LD_instruction 81 rfl) rfl ?_
  refine v_iload_n G (decAt dd_LD_instruction 82 rfl) rfl ?_
  refine v_callVvk G (As := [.int (enc 12 v)]) (decAt dd_LD_instruction 83 rfl) k_LD_57 (c_LD_word l hE (w := enc 12 v) (mm := mm) ((up2_ne (by decide)).trans ((up2_ne (by decide)).trans hm)) hml h26) (by decide) rfl rfl rfl (Nat.le_of_ble_eq_true rfl) (by decide) rfl rfl (by decide) ?_
  exact v_vret G (decAt dd_LD_instruction 84 rfl) rfl ⟨rfl, rfl, rfl, rfl, rfl, rfl⟩
set_option maxHeartbeats 4000000 in
theorem c_LD_ins_13 (l : Launch) {E : Bs} (hE : Hb E) {ρ : Nat → Nat} {g A : Nat → Nat → Int32} {n : Nat → Nat} {v : Int32} {at_ mm wt : Nat} (hat : g 5 5 = nI at_) (hm : g 5 1 = nI mm) (hw : g 5 4 = nI wt) (hml : mm < 4096) (hwl : wt < 64) (h26 : n 26 = 4096) (h28 : n 28 = 64) (hb : n 25 = 4096) (hT : TxA (A 25) at_ ([76] ++ (dec v ++ [10]))) (hle : at_ + 1 + (dec v).length + 1 ≤ n 25) : CW l E DC AC y_LD_instruction b_LD_instruction 5 none ({ frames := 4, cells := 0, slots := 0, locals := 91 } : Room) [.ref (E.o 5), .int 74] ρ g A n (.ref (E.o 4)) (fun r ρ' g' A' n' tx' => r = none ∧ ρ' = ρ ∧ g' = up2 (up2 (up2 g 5 5 (nI (at_ + 1 + (dec v).length + 1))) 5 4 (nI (wt + 1))) 5 1 (nI (mm + 1)) ∧ A' = va_up (va_up A 28 (va_up (A 28) wt (nI mm))) 26 (va_up (A 26) mm (enc 13 v)) ∧ n' = n ∧ tx' = (.ref (E.o 4))) := by
  refine CW.start [some (.ref (E.o 5)), some (.int 74), none, none, none] hE (by decide) (Nat.le_of_ble_eq_true rfl) rfl ?_
  intro p e s m args below meth c G
  obtain ⟨hT1, hT2⟩ := TxA.app hT
  obtain ⟨d, r9, hdr, hdd⟩ := dec_head v
  obtain ⟨n73, n80, n81, n76⟩ := dh_ne hdd
  have hd0 : A 25 (at_ + 1) = d := by rw [hdr] at hT2; exact (TxA.cons hT2).1
  have hc0 : A 25 (at_ + 0) = 76 := hT1 0 _ rfl
  refine q_ldcs G (i := 16) (decAt dd_LD_instruction 0 rfl) rfl rfl rfl ?_
  refine v_iload_n G (decAt dd_LD_instruction 1 rfl) rfl ?_
  refine v_i2c G (v := 74) (decAt dd_LD_instruction 2 rfl) (by decide) ?_
  refine p_callVi G (XB_Sy G) (As := [.int (sby 16 3)]) (decAt dd_LD_instruction 3 rfl) k_LD_68 (c_ST_indexOf_0 l hE (j := 3) (by decide)) (q_recv G XS_Sy (by decide)) rfl rfl (Nat.le_of_ble_eq_true rfl) (by decide) rfl rfl (by decide) ?_
  refine v_bipush G 28 (decAt dd_LD_instruction 4 rfl) (by decide) ?_
  refine v_ishl G (decAt dd_LD_instruction 5 rfl) ?_
  refine v_ri (y := 805306368) (by decide) ?_
  refine v_istore_2 G (decAt dd_LD_instruction 6 rfl) (by decide) rfl ?_
  refine v_iconst G 0 (decAt dd_LD_instruction 7 rfl) (by decide) ?_
  refine v_istore_3 G (decAt dd_LD_instruction 8 rfl) (by decide) rfl ?_
  refine v_aload_n G (decAt dd_LD_instruction 9 rfl) rfl ?_
  refine v_gett G (decAt dd_LD_instruction 10 rfl) f_LD_31 ?_
  refine v_geta G (decAt dd_LD_instruction 11 rfl) f_LD_35 ?_
  refine v_aload_n G (decAt dd_LD_instruction 12 rfl) rfl ?_
  refine v_geti G (decAt dd_LD_instruction 13 rfl) f_LD_41 ?_
  refine v_ri (y := nI (at_ + 0)) hat ?_
  refine v_bald G 25 (at_ + 0) (decAt dd_LD_instruction 14 rfl) (by decide) rfl rfl (by omega) ?_
  refine v_ri (y := 76) hc0 ?_
  refine v_istore_4 G (decAt dd_LD_instruction 15 rfl) (by decide) rfl ?_
  refine v_iload G (decAt dd_LD_instruction 16 rfl) rfl ?_
  refine v_bipush G 73 (decAt dd_LD_instruction 17 rfl) (by decide) ?_
  refine v_icmp_ne G 42 (decAt dd_LD_instruction 18 rfl) (by decide) (fun _ => ?_) (fun z => absurd z (by decide))
  refine v_iload G (decAt dd_LD_instruction 24 rfl) rfl ?_
  refine v_bipush G 80 (decAt dd_LD_instruction 25 rfl) (by decide) ?_
  refine v_icmp_ne G 57 (decAt dd_LD_instruction 26 rfl) (by decide) (fun _ => ?_) (fun z => absurd z (by decide))
  refine v_iload G (decAt dd_LD_instruction 32 rfl) rfl ?_
  refine v_bipush G 81 (decAt dd_LD_instruction 33 rfl) (by decide) ?_
  refine v_icmp_ne G 72 (decAt dd_LD_instruction 34 rfl) (by decide) (fun _ => ?_) (fun z => absurd z (by decide))
  refine v_iload G (decAt dd_LD_instruction 40 rfl) rfl ?_
  refine v_bipush G 76 (decAt dd_LD_instruction 41 rfl) (by decide) ?_
  refine v_icmp_ne G 94 (decAt dd_LD_instruction 42 rfl) (by decide) (fun z => absurd rfl z) (fun _ => ?_)
  refine v_iconst G 1 (decAt dd_LD_instruction 43 rfl) (by decide) ?_
  refine v_istore_3 G (decAt dd_LD_instruction 44 rfl) (by decide) rfl ?_
  refine v_aload_n G (decAt dd_LD_instruction 45 rfl) rfl ?_
  refine v_dup G (decAt dd_LD_instruction 46 rfl) rfl ?_
  refine v_geti G (decAt dd_LD_instruction 47 rfl) f_LD_41 ?_
  refine v_ri (y := nI (at_ + 0)) hat ?_
  refine v_iconst G 1 (decAt dd_LD_instruction 48 rfl) (by decide) ?_
  refine v_iadd G (decAt dd_LD_instruction 49 rfl) ?_
  refine v_ri (y := nI (at_ + 0 + 1)) (nI_1 _) ?_
  refine v_puti G (decAt dd_LD_instruction 50 rfl) f_LD_41 rfl rfl rfl ?_
  refine v_goto G 13 (decAt dd_LD_instruction 51 rfl) (by decide) ?_
  refine v_aload_n G (decAt dd_LD_instruction 9 rfl) rfl ?_
  refine v_gett G (decAt dd_LD_instruction 10 rfl) f_LD_31 ?_
  refine v_geta G (decAt dd_LD_instruction 11 rfl) f_LD_35 ?_
  refine v_aload_n G (decAt dd_LD_instruction 12 rfl) rfl ?_
  refine v_geti G (decAt dd_LD_instruction 13 rfl) f_LD_41 ?_
  refine v_ri (y := nI (at_ + 1)) up2_self ?_
  refine v_bald G 25 (at_ + 1) (decAt dd_LD_instruction 14 rfl) (by decide) rfl rfl (by omega) ?_
  refine v_ri (y := d) hd0 ?_
  refine v_istore_4 G (decAt dd_LD_instruction 15 rfl) (by decide) rfl ?_
  refine v_iload G (decAt dd_LD_instruction 16 rfl) rfl ?_
  refine v_bipush G 73 (decAt dd_LD_instruction 17 rfl) (by decide) ?_
  refine v_icmp_ne G 42 (decAt dd_LD_instruction 18 rfl) (by decide) (fun _ => ?_) (fun z => absurd z n73)
  refine v_iload G (decAt dd_LD_instruction 24 rfl) rfl ?_
  refine v_bipush G 80 (decAt dd_LD_instruction 25 rfl) (by decide) ?_
  refine v_icmp_ne G 57 (decAt dd_LD_instruction 26 rfl) (by decide) (fun _ => ?_) (fun z => absurd z n80)
  refine v_iload G (decAt dd_LD_instruction 32 rfl) rfl ?_
  refine v_bipush G 81 (decAt dd_LD_instruction 33 rfl) (by decide) ?_
  refine v_icmp_ne G 72 (decAt dd_LD_instruction 34 rfl) (by decide) (fun _ => ?_) (fun z => absurd z n81)
  refine v_iload G (decAt dd_LD_instruction 40 rfl) rfl ?_
  refine v_bipush G 76 (decAt dd_LD_instruction 41 rfl) (by decide) ?_
  refine v_icmp_ne G 94 (decAt dd_LD_instruction 42 rfl) (by decide) (fun _ => ?_) (fun z => absurd z n76)
  refine v_iload_n G (decAt dd_LD_instruction 52 rfl) rfl ?_
  refine v_aload_n G (decAt dd_LD_instruction 53 rfl) rfl ?_
  refine v_callVik G (As := []) (decAt dd_LD_instruction 54 rfl) k_LD_49 (c_LD_number l hE (v := v) (at_ := at_ + 1) (g := (up2 g 5 5 (nI (at_ + 1)))) up2_self hT2 (by omega) hb) (by decide) rfl rfl rfl (Nat.le_of_ble_eq_true rfl) (by decide) rfl rfl (by decide) ?_
  refine v_stg (up2_up2 _ _ _ _ _) ?_
  refine v_ldc G (decAt dd_LD_instruction 55 rfl) tm_624 ?_
  refine v_iand G (decAt dd_LD_instruction 56 rfl) ?_
  refine v_ior G (decAt dd_LD_instruction 57 rfl) ?_
  refine v_ri (y := enc 13 v) rfl ?_
  refine v_istore_2 G (decAt dd_LD_instruction 58 rfl) (by decide) rfl ?_
  refine v_iload_n G (decAt dd_LD_instruction 59 rfl) rfl ?_
  refine v_if_eq G 146 (decAt dd_LD_instruction 60 rfl) (by decide) (fun c105 => absurd c105 (by decide)) (fun _ => ?_)
  refine v_aload_n G (decAt dd_LD_instruction 61 rfl) rfl ?_
  refine v_aload_n G (decAt dd_LD_instruction 62 rfl) rfl ?_
  refine v_geta G (decAt dd_LD_instruction 63 rfl) f_LD_18 ?_
  refine v_aload_n G (decAt dd_LD_instruction 64 rfl) rfl ?_
  refine v_geti G (decAt dd_LD_instruction 65 rfl) f_LD_44 ?_
  refine v_ri (y := (nI wt)) ((up2_ne (by decide)).trans hw) ?_
  refine v_callSx G (As := [.ref (ρ 28), .int (nI wt)]) (decAt dd_LD_instruction 66 rfl) k_LD_53 (c_LD_longer_s l hE (i := 28) (k := wt) (by decide) rfl (by omega) (by omega)) rfl rfl (Nat.le_of_ble_eq_true rfl) (by decide) (by decide) ?_
  rintro r9 ρ9 g9 A9 n9 tx9 ⟨rfl, e1, e2, e3, e4, e5⟩
  replace e1 := e1.symm; subst e1; replace e2 := e2.symm; subst e2; replace e3 := e3.symm; subst e3; replace e4 := e4.symm; subst e4; replace e5 := e5.symm; subst e5
  refine v_puta G (decAt dd_LD_instruction 67 rfl) f_LD_18 rfl rfl rfl ?_
  refine v_aload_n G (decAt dd_LD_instruction 68 rfl) rfl ?_
  refine v_geta G (decAt dd_LD_instruction 69 rfl) f_LD_18 ?_
  refine v_aload_n G (decAt dd_LD_instruction 70 rfl) rfl ?_
  refine v_geti G (decAt dd_LD_instruction 71 rfl) f_LD_44 ?_
  refine v_ri (y := (nI wt)) ((up2_ne (by decide)).trans hw) ?_
  refine v_aload_n G (decAt dd_LD_instruction 72 rfl) rfl ?_
  refine v_geti G (decAt dd_LD_instruction 73 rfl) f_LD_21 ?_
  refine v_ri (y := (nI mm)) ((up2_ne (by decide)).trans hm) ?_
  refine v_iast G 28 wt (decAt dd_LD_instruction 74 rfl) (by decide) rfl rfl (by omega) ?_
  refine v_aload_n G (decAt dd_LD_instruction 75 rfl) rfl ?_
  refine v_dup G (decAt dd_LD_instruction 76 rfl) rfl ?_
  refine v_geti G (decAt dd_LD_instruction 77 rfl) f_LD_44 ?_
  refine v_ri (y := (nI wt)) ((up2_ne (by decide)).trans hw) ?_
  refine v_iconst G 1 (decAt dd_LD_instruction 78 rfl) (by decide) ?_
  refine v_iadd G (decAt dd_LD_instruction 79 rfl) ?_
  refine v_ri (y := (nI (wt + 1))) (nI_1 _) ?_
  refine v_puti G (decAt dd_LD_instruction 80 rfl) f_LD_44 rfl rfl rfl ?_
  refine v_aload_n G (decAt dd_LD_instruction 81 rfl) rfl ?_
  refine v_iload_n G (decAt dd_LD_instruction 82 rfl) rfl ?_
  refine v_callVvk G (As := [.int (enc 13 v)]) (decAt dd_LD_instruction 83 rfl) k_LD_57 (c_LD_word l hE (w := enc 13 v) (mm := mm) ((up2_ne (by decide)).trans ((up2_ne (by decide)).trans hm)) hml h26) (by decide) rfl rfl rfl (Nat.le_of_ble_eq_true rfl) (by decide) rfl rfl (by decide) ?_
  exact v_vret G (decAt dd_LD_instruction 84 rfl) rfl ⟨rfl, rfl, rfl, rfl, rfl, rfl⟩
set_option maxHeartbeats 4000000 in
theorem c_LD_ins_15 (l : Launch) {E : Bs} (hE : Hb E) {ρ : Nat → Nat} {g A : Nat → Nat → Int32} {n : Nat → Nat} {v : Int32} {at_ mm wt : Nat} (hat : g 5 5 = nI at_) (hm : g 5 1 = nI mm) (hw : g 5 4 = nI wt) (hml : mm < 4096) (hwl : wt < 64) (h26 : n 26 = 4096) (h28 : n 28 = 64) (hb : n 25 = 4096) (hT : TxA (A 25) at_ ([76] ++ (dec v ++ [10]))) (hle : at_ + 1 + (dec v).length + 1 ≤ n 25) : CW l E DC AC y_LD_instruction b_LD_instruction 5 none ({ frames := 4, cells := 0, slots := 0, locals := 91 } : Room) [.ref (E.o 5), .int 70] ρ g A n (.ref (E.o 4)) (fun r ρ' g' A' n' tx' => r = none ∧ ρ' = ρ ∧ g' = up2 (up2 (up2 g 5 5 (nI (at_ + 1 + (dec v).length + 1))) 5 4 (nI (wt + 1))) 5 1 (nI (mm + 1)) ∧ A' = va_up (va_up A 28 (va_up (A 28) wt (nI mm))) 26 (va_up (A 26) mm (enc 15 v)) ∧ n' = n ∧ tx' = (.ref (E.o 4))) := by
  refine CW.start [some (.ref (E.o 5)), some (.int 70), none, none, none] hE (by decide) (Nat.le_of_ble_eq_true rfl) rfl ?_
  intro p e s m args below meth c G
  obtain ⟨hT1, hT2⟩ := TxA.app hT
  obtain ⟨d, r9, hdr, hdd⟩ := dec_head v
  obtain ⟨n73, n80, n81, n76⟩ := dh_ne hdd
  have hd0 : A 25 (at_ + 1) = d := by rw [hdr] at hT2; exact (TxA.cons hT2).1
  have hc0 : A 25 (at_ + 0) = 76 := hT1 0 _ rfl
  refine q_ldcs G (i := 16) (decAt dd_LD_instruction 0 rfl) rfl rfl rfl ?_
  refine v_iload_n G (decAt dd_LD_instruction 1 rfl) rfl ?_
  refine v_i2c G (v := 70) (decAt dd_LD_instruction 2 rfl) (by decide) ?_
  refine p_callVi G (XB_Sy G) (As := [.int (sby 16 5)]) (decAt dd_LD_instruction 3 rfl) k_LD_68 (c_ST_indexOf_0 l hE (j := 5) (by decide)) (q_recv G XS_Sy (by decide)) rfl rfl (Nat.le_of_ble_eq_true rfl) (by decide) rfl rfl (by decide) ?_
  refine v_bipush G 28 (decAt dd_LD_instruction 4 rfl) (by decide) ?_
  refine v_ishl G (decAt dd_LD_instruction 5 rfl) ?_
  refine v_ri (y := 1342177280) (by decide) ?_
  refine v_istore_2 G (decAt dd_LD_instruction 6 rfl) (by decide) rfl ?_
  refine v_iconst G 0 (decAt dd_LD_instruction 7 rfl) (by decide) ?_
  refine v_istore_3 G (decAt dd_LD_instruction 8 rfl) (by decide) rfl ?_
  refine v_aload_n G (decAt dd_LD_instruction 9 rfl) rfl ?_
  refine v_gett G (decAt dd_LD_instruction 10 rfl) f_LD_31 ?_
  refine v_geta G (decAt dd_LD_instruction 11 rfl) f_LD_35 ?_
  refine v_aload_n G (decAt dd_LD_instruction 12 rfl) rfl ?_
  refine v_geti G (decAt dd_LD_instruction 13 rfl) f_LD_41 ?_
  refine v_ri (y := nI (at_ + 0)) hat ?_
  refine v_bald G 25 (at_ + 0) (decAt dd_LD_instruction 14 rfl) (by decide) rfl rfl (by omega) ?_
  refine v_ri (y := 76) hc0 ?_
  refine v_istore_4 G (decAt dd_LD_instruction 15 rfl) (by decide) rfl ?_
  refine v_iload G (decAt dd_LD_instruction 16 rfl) rfl ?_
  refine v_bipush G 73 (decAt dd_LD_instruction 17 rfl) (by decide) ?_
  refine v_icmp_ne G 42 (decAt dd_LD_instruction 18 rfl) (by decide) (fun _ => ?_) (fun z => absurd z (by decide))
  refine v_iload G (decAt dd_LD_instruction 24 rfl) rfl ?_
  refine v_bipush G 80 (decAt dd_LD_instruction 25 rfl) (by decide) ?_
  refine v_icmp_ne G 57 (decAt dd_LD_instruction 26 rfl) (by decide) (fun _ => ?_) (fun z => absurd z (by decide))
  refine v_iload G (decAt dd_LD_instruction 32 rfl) rfl ?_
  refine v_bipush G 81 (decAt dd_LD_instruction 33 rfl) (by decide) ?_
  refine v_icmp_ne G 72 (decAt dd_LD_instruction 34 rfl) (by decide) (fun _ => ?_) (fun z => absurd z (by decide))
  refine v_iload G (decAt dd_LD_instruction 40 rfl) rfl ?_
  refine v_bipush G 76 (decAt dd_LD_instruction 41 rfl) (by decide) ?_
  refine v_icmp_ne G 94 (decAt dd_LD_instruction 42 rfl) (by decide) (fun z => absurd rfl z) (fun _ => ?_)
  refine v_iconst G 1 (decAt dd_LD_instruction 43 rfl) (by decide) ?_
  refine v_istore_3 G (decAt dd_LD_instruction 44 rfl) (by decide) rfl ?_
  refine v_aload_n G (decAt dd_LD_instruction 45 rfl) rfl ?_
  refine v_dup G (decAt dd_LD_instruction 46 rfl) rfl ?_
  refine v_geti G (decAt dd_LD_instruction 47 rfl) f_LD_41 ?_
  refine v_ri (y := nI (at_ + 0)) hat ?_
  refine v_iconst G 1 (decAt dd_LD_instruction 48 rfl) (by decide) ?_
  refine v_iadd G (decAt dd_LD_instruction 49 rfl) ?_
  refine v_ri (y := nI (at_ + 0 + 1)) (nI_1 _) ?_
  refine v_puti G (decAt dd_LD_instruction 50 rfl) f_LD_41 rfl rfl rfl ?_
  refine v_goto G 13 (decAt dd_LD_instruction 51 rfl) (by decide) ?_
  refine v_aload_n G (decAt dd_LD_instruction 9 rfl) rfl ?_
  refine v_gett G (decAt dd_LD_instruction 10 rfl) f_LD_31 ?_
  refine v_geta G (decAt dd_LD_instruction 11 rfl) f_LD_35 ?_
  refine v_aload_n G (decAt dd_LD_instruction 12 rfl) rfl ?_
  refine v_geti G (decAt dd_LD_instruction 13 rfl) f_LD_41 ?_
  refine v_ri (y := nI (at_ + 1)) up2_self ?_
  refine v_bald G 25 (at_ + 1) (decAt dd_LD_instruction 14 rfl) (by decide) rfl rfl (by omega) ?_
  refine v_ri (y := d) hd0 ?_
  refine v_istore_4 G (decAt dd_LD_instruction 15 rfl) (by decide) rfl ?_
  refine v_iload G (decAt dd_LD_instruction 16 rfl) rfl ?_
  refine v_bipush G 73 (decAt dd_LD_instruction 17 rfl) (by decide) ?_
  refine v_icmp_ne G 42 (decAt dd_LD_instruction 18 rfl) (by decide) (fun _ => ?_) (fun z => absurd z n73)
  refine v_iload G (decAt dd_LD_instruction 24 rfl) rfl ?_
  refine v_bipush G 80 (decAt dd_LD_instruction 25 rfl) (by decide) ?_
  refine v_icmp_ne G 57 (decAt dd_LD_instruction 26 rfl) (by decide) (fun _ => ?_) (fun z => absurd z n80)
  refine v_iload G (decAt dd_LD_instruction 32 rfl) rfl ?_
  refine v_bipush G 81 (decAt dd_LD_instruction 33 rfl) (by decide) ?_
  refine v_icmp_ne G 72 (decAt dd_LD_instruction 34 rfl) (by decide) (fun _ => ?_) (fun z => absurd z n81)
  refine v_iload G (decAt dd_LD_instruction 40 rfl) rfl ?_
  refine v_bipush G 76 (decAt dd_LD_instruction 41 rfl) (by decide) ?_
  refine v_icmp_ne G 94 (decAt dd_LD_instruction 42 rfl) (by decide) (fun _ => ?_) (fun z => absurd z n76)
  refine v_iload_n G (decAt dd_LD_instruction 52 rfl) rfl ?_
  refine v_aload_n G (decAt dd_LD_instruction 53 rfl) rfl ?_
  refine v_callVik G (As := []) (decAt dd_LD_instruction 54 rfl) k_LD_49 (c_LD_number l hE (v := v) (at_ := at_ + 1) (g := (up2 g 5 5 (nI (at_ + 1)))) up2_self hT2 (by omega) hb) (by decide) rfl rfl rfl (Nat.le_of_ble_eq_true rfl) (by decide) rfl rfl (by decide) ?_
  refine v_stg (up2_up2 _ _ _ _ _) ?_
  refine v_ldc G (decAt dd_LD_instruction 55 rfl) tm_624 ?_
  refine v_iand G (decAt dd_LD_instruction 56 rfl) ?_
  refine v_ior G (decAt dd_LD_instruction 57 rfl) ?_
  refine v_ri (y := enc 15 v) rfl ?_
  refine v_istore_2 G (decAt dd_LD_instruction 58 rfl) (by decide) rfl ?_
  refine v_iload_n G (decAt dd_LD_instruction 59 rfl) rfl ?_
  refine v_if_eq G 146 (decAt dd_LD_instruction 60 rfl) (by decide) (fun c105 => absurd c105 (by decide)) (fun _ => ?_)
  refine v_aload_n G (decAt dd_LD_instruction 61 rfl) rfl ?_
  refine v_aload_n G (decAt dd_LD_instruction 62 rfl) rfl ?_
  refine v_geta G (decAt dd_LD_instruction 63 rfl) f_LD_18 ?_
  refine v_aload_n G (decAt dd_LD_instruction 64 rfl) rfl ?_
  refine v_geti G (decAt dd_LD_instruction 65 rfl) f_LD_44 ?_
  refine v_ri (y := (nI wt)) ((up2_ne (by decide)).trans hw) ?_
  refine v_callSx G (As := [.ref (ρ 28), .int (nI wt)]) (decAt dd_LD_instruction 66 rfl) k_LD_53 (c_LD_longer_s l hE (i := 28) (k := wt) (by decide) rfl (by omega) (by omega)) rfl rfl (Nat.le_of_ble_eq_true rfl) (by decide) (by decide) ?_
  rintro r9 ρ9 g9 A9 n9 tx9 ⟨rfl, e1, e2, e3, e4, e5⟩
  replace e1 := e1.symm; subst e1; replace e2 := e2.symm; subst e2; replace e3 := e3.symm; subst e3; replace e4 := e4.symm; subst e4; replace e5 := e5.symm; subst e5
  refine v_puta G (decAt dd_LD_instruction 67 rfl) f_LD_18 rfl rfl rfl ?_
  refine v_aload_n G (decAt dd_LD_instruction 68 rfl) rfl ?_
  refine v_geta G (decAt dd_LD_instruction 69 rfl) f_LD_18 ?_
  refine v_aload_n G (decAt dd_LD_instruction 70 rfl) rfl ?_
  refine v_geti G (decAt dd_LD_instruction 71 rfl) f_LD_44 ?_
  refine v_ri (y := (nI wt)) ((up2_ne (by decide)).trans hw) ?_
  refine v_aload_n G (decAt dd_LD_instruction 72 rfl) rfl ?_
  refine v_geti G (decAt dd_LD_instruction 73 rfl) f_LD_21 ?_
  refine v_ri (y := (nI mm)) ((up2_ne (by decide)).trans hm) ?_
  refine v_iast G 28 wt (decAt dd_LD_instruction 74 rfl) (by decide) rfl rfl (by omega) ?_
  refine v_aload_n G (decAt dd_LD_instruction 75 rfl) rfl ?_
  refine v_dup G (decAt dd_LD_instruction 76 rfl) rfl ?_
  refine v_geti G (decAt dd_LD_instruction 77 rfl) f_LD_44 ?_
  refine v_ri (y := (nI wt)) ((up2_ne (by decide)).trans hw) ?_
  refine v_iconst G 1 (decAt dd_LD_instruction 78 rfl) (by decide) ?_
  refine v_iadd G (decAt dd_LD_instruction 79 rfl) ?_
  refine v_ri (y := (nI (wt + 1))) (nI_1 _) ?_
  refine v_puti G (decAt dd_LD_instruction 80 rfl) f_LD_44 rfl rfl rfl ?_
  refine v_aload_n G (decAt dd_LD_instruction 81 rfl) rfl ?_
  refine v_iload_n G (decAt dd_LD_instruction 82 rfl) rfl ?_
  refine v_callVvk G (As := [.int (enc 15 v)]) (decAt dd_LD_instruction 83 rfl) k_LD_57 (c_LD_word l hE (w := enc 15 v) (mm := mm) ((up2_ne (by decide)).trans ((up2_ne (by decide)).trans hm)) hml h26) (by decide) rfl rfl rfl (Nat.le_of_ble_eq_true rfl) (by decide) rfl rfl (by decide) ?_
  exact v_vret G (decAt dd_LD_instruction 84 rfl) rfl ⟨rfl, rfl, rfl, rfl, rfl, rfl⟩
