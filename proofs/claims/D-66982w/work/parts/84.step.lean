/-! the machine: step -/
set_option maxHeartbeats 4000000 in
theorem c_RC_step_0 (l : Launch) {E : Bs} (hE : Hb E) {ρ : Nat → Nat} {g A : Nat → Nat → Int32} {n : Nat → Nat} {tx : Value} {pp : Nat} {a b : Int32} (hc : g 0 20 = nI (65536 + pp)) (hp : pp < 4096) (h26 : n 26 = 4096) (ha : g 0 18 = a) (hb : g 0 19 = b) {v : Int32} (hw : A 26 pp = finW (0, v)) (hv : small v = true) : CW l E DC AC y_RC_step b_RC_step 4 none ({ frames := 4, cells := 0, slots := 0, locals := 89 } : Room) [.ref (E.o 0)] ρ g A n tx (fun r ρ' g' A' n' tx' => r = none ∧ ρ' = ρ ∧ g' = up2 (up2 (up2 g 0 20 (nI (65536 + (pp + 1)))) 0 19 (a)) 0 18 (v) ∧ A' = A ∧ n' = n ∧ tx' = tx) := by
  refine CW.start [some (.ref (E.o 0)), none, none, none] hE (by decide) (Nat.le_of_ble_eq_true rfl) rfl ?_
  intro p e s m args below meth c G
  have hWr := fin_0 v
  refine v_aload_n G (decAt dd_RC_step 0 rfl) rfl ?_
  refine v_geto G (decAt dd_RC_step 1 rfl) f_RC_44 ?_
  refine v_geta G (decAt dd_RC_step 2 rfl) f_RC_154 ?_
  refine v_aload_n G (decAt dd_RC_step 3 rfl) rfl ?_
  refine v_geti G (decAt dd_RC_step 4 rfl) f_RC_157 ?_
  refine v_ri (y := (nI (65536 + pp))) hc ?_
  refine v_ldc G (decAt dd_RC_step 5 rfl) tm_632 ?_
  refine v_isub G (decAt dd_RC_step 6 rfl) ?_
  refine v_ri (y := (nI pp)) (by rw [Nat.add_comm]; exact nI_sub pp 65536) ?_
  refine v_iald G 26 pp (decAt dd_RC_step 7 rfl) (by decide) rfl rfl (by omega) ?_
  refine v_ri (y := (finW (0, v))) hw ?_
  refine v_istore_1 G (decAt dd_RC_step 8 rfl) (by decide) rfl ?_
  refine v_aload_n G (decAt dd_RC_step 9 rfl) rfl ?_
  refine v_dup G (decAt dd_RC_step 10 rfl) rfl ?_
  refine v_geti G (decAt dd_RC_step 11 rfl) f_RC_157 ?_
  refine v_ri (y := (nI (65536 + pp))) hc ?_
  refine v_iconst G 1 (decAt dd_RC_step 12 rfl) (by decide) ?_
  refine v_iadd G (decAt dd_RC_step 13 rfl) ?_
  refine v_ri (y := (nI (65536 + (pp + 1)))) (nI_1 _) ?_
  refine v_puti G (decAt dd_RC_step 14 rfl) f_RC_157 rfl rfl rfl ?_
  refine v_iload_n G (decAt dd_RC_step 15 rfl) rfl ?_
  refine v_bipush G 7 (decAt dd_RC_step 16 rfl) (by decide) ?_
  refine v_ishl G (decAt dd_RC_step 17 rfl) ?_
  refine v_bipush G 7 (decAt dd_RC_step 18 rfl) (by decide) ?_
  refine v_ishr G (decAt dd_RC_step 19 rfl) ?_
  refine v_ri (y := v) (hWr.num (small_num hv)) ?_
  refine v_istore_2 G (decAt dd_RC_step 20 rfl) (by decide) rfl ?_
  refine v_iload_n G (decAt dd_RC_step 21 rfl) rfl ?_
  refine v_ldc G (decAt dd_RC_step 22 rfl) tm_637 ?_
  refine v_iand G (decAt dd_RC_step 23 rfl) ?_
  refine v_ri (y := 0) (hWr.and (K := 1) (by decide) (by decide) (by decide)) ?_
  refine v_if_eq G 45 (decAt dd_RC_step 24 rfl) (by decide) (fun _ => ?_) (fun c38 => absurd c38 (by decide))
  refine v_iconst G 0 (decAt dd_RC_step 27 rfl) (by decide) ?_
  refine v_istore_3 G (decAt dd_RC_step 28 rfl) (by decide) rfl ?_
  refine v_iload_n G (decAt dd_RC_step 29 rfl) rfl ?_
  refine v_ldc G (decAt dd_RC_step 30 rfl) tm_638 ?_
  refine v_iand G (decAt dd_RC_step 31 rfl) ?_
  refine v_ri (y := 0) (hWr.and (K := 2) (by decide) (by decide) (by decide)) ?_
  refine v_if_eq G 57 (decAt dd_RC_step 32 rfl) (by decide) (fun _ => ?_) (fun c51 => absurd c51 (by decide))
  refine v_iload_n G (decAt dd_RC_step 34 rfl) rfl ?_
  refine v_bipush G 28 (decAt dd_RC_step 35 rfl) (by decide) ?_
  refine v_iushr G (decAt dd_RC_step 36 rfl) ?_
  refine v_ri (y := 1) (hWr.opc rfl) ?_
  refine v_tswIn G 96 (decAt dd_RC_step 37 rfl) (by decide) (by decide) rfl (by decide) ?_
  refine v_aload_n G (decAt dd_RC_step 38 rfl) rfl ?_
  refine v_aload_n G (decAt dd_RC_step 39 rfl) rfl ?_
  refine v_geti G (decAt dd_RC_step 40 rfl) f_RC_163 ?_
  refine v_ri (y := a) (by simp only [up2]; exact ha) ?_
  refine v_puti G (decAt dd_RC_step 41 rfl) f_RC_166 rfl rfl rfl ?_
  refine v_iload_n G (decAt dd_RC_step 42 rfl) rfl ?_
  refine v_ldc G (decAt dd_RC_step 43 rfl) tm_639 ?_
  refine v_iand G (decAt dd_RC_step 44 rfl) ?_
  refine v_ri (y := 0) (hWr.and (K := 4) (by decide) (by decide) (by decide)) ?_
  refine v_if_ne G 119 (decAt dd_RC_step 45 rfl) (by decide) (fun c108 => absurd c108 (by decide)) (fun _ => ?_)
  refine v_aload_n G (decAt dd_RC_step 46 rfl) rfl ?_
  refine v_iload_n G (decAt dd_RC_step 47 rfl) rfl ?_
  refine v_puti G (decAt dd_RC_step 48 rfl) f_RC_163 rfl rfl rfl ?_
  refine v_goto G 239 (decAt dd_RC_step 49 rfl) (by decide) ?_
  exact v_vret G (decAt dd_RC_step 112 rfl) rfl ⟨rfl, rfl, rfl, rfl, rfl, rfl⟩
set_option maxHeartbeats 4000000 in
theorem c_RC_step_1 (l : Launch) {E : Bs} (hE : Hb E) {ρ : Nat → Nat} {g A : Nat → Nat → Int32} {n : Nat → Nat} {tx : Value} {pp : Nat} {a b : Int32} (hc : g 0 20 = nI (65536 + pp)) (hp : pp < 4096) (h26 : n 26 = 4096) (ha : g 0 18 = a) (hb : g 0 19 = b) {q : Nat} {x : Int32} (hw : A 26 pp = finW (1, nI q)) (hq : q < 4096) (hx : A 26 q = x) : CW l E DC AC y_RC_step b_RC_step 4 none ({ frames := 4, cells := 0, slots := 0, locals := 89 } : Room) [.ref (E.o 0)] ρ g A n tx (fun r ρ' g' A' n' tx' => r = none ∧ ρ' = ρ ∧ g' = up2 (up2 (up2 g 0 20 (nI (65536 + (pp + 1)))) 0 19 (a)) 0 18 (x) ∧ A' = A ∧ n' = n ∧ tx' = tx) := by
  refine CW.start [some (.ref (E.o 0)), none, none, none] hE (by decide) (Nat.le_of_ble_eq_true rfl) rfl ?_
  intro p e s m args below meth c G
  have hWr := fin_lb (i := 1) (by decide) rfl hq
  refine v_aload_n G (decAt dd_RC_step 0 rfl) rfl ?_
  refine v_geto G (decAt dd_RC_step 1 rfl) f_RC_44 ?_
  refine v_geta G (decAt dd_RC_step 2 rfl) f_RC_154 ?_
  refine v_aload_n G (decAt dd_RC_step 3 rfl) rfl ?_
  refine v_geti G (decAt dd_RC_step 4 rfl) f_RC_157 ?_
  refine v_ri (y := (nI (65536 + pp))) hc ?_
  refine v_ldc G (decAt dd_RC_step 5 rfl) tm_632 ?_
  refine v_isub G (decAt dd_RC_step 6 rfl) ?_
  refine v_ri (y := (nI pp)) (by rw [Nat.add_comm]; exact nI_sub pp 65536) ?_
  refine v_iald G 26 pp (decAt dd_RC_step 7 rfl) (by decide) rfl rfl (by omega) ?_
  refine v_ri (y := (finW (1, nI q))) hw ?_
  refine v_istore_1 G (decAt dd_RC_step 8 rfl) (by decide) rfl ?_
  refine v_aload_n G (decAt dd_RC_step 9 rfl) rfl ?_
  refine v_dup G (decAt dd_RC_step 10 rfl) rfl ?_
  refine v_geti G (decAt dd_RC_step 11 rfl) f_RC_157 ?_
  refine v_ri (y := (nI (65536 + pp))) hc ?_
  refine v_iconst G 1 (decAt dd_RC_step 12 rfl) (by decide) ?_
  refine v_iadd G (decAt dd_RC_step 13 rfl) ?_
  refine v_ri (y := (nI (65536 + (pp + 1)))) (nI_1 _) ?_
  refine v_puti G (decAt dd_RC_step 14 rfl) f_RC_157 rfl rfl rfl ?_
  refine v_iload_n G (decAt dd_RC_step 15 rfl) rfl ?_
  refine v_bipush G 7 (decAt dd_RC_step 16 rfl) (by decide) ?_
  refine v_ishl G (decAt dd_RC_step 17 rfl) ?_
  refine v_bipush G 7 (decAt dd_RC_step 18 rfl) (by decide) ?_
  refine v_ishr G (decAt dd_RC_step 19 rfl) ?_
  refine v_ri (y := (nI (65536 + q))) (hWr.num (Wr.lo (by omega))) ?_
  refine v_istore_2 G (decAt dd_RC_step 20 rfl) (by decide) rfl ?_
  refine v_iload_n G (decAt dd_RC_step 21 rfl) rfl ?_
  refine v_ldc G (decAt dd_RC_step 22 rfl) tm_637 ?_
  refine v_iand G (decAt dd_RC_step 23 rfl) ?_
  refine v_ri (y := 0) (hWr.and (K := 1) (by decide) (by decide) (by decide)) ?_
  refine v_if_eq G 45 (decAt dd_RC_step 24 rfl) (by decide) (fun _ => ?_) (fun c38 => absurd c38 (by decide))
  refine v_iconst G 0 (decAt dd_RC_step 27 rfl) (by decide) ?_
  refine v_istore_3 G (decAt dd_RC_step 28 rfl) (by decide) rfl ?_
  refine v_iload_n G (decAt dd_RC_step 29 rfl) rfl ?_
  refine v_ldc G (decAt dd_RC_step 30 rfl) tm_638 ?_
  refine v_iand G (decAt dd_RC_step 31 rfl) ?_
  refine v_ri (y := 0) (hWr.and (K := 2) (by decide) (by decide) (by decide)) ?_
  refine v_if_eq G 57 (decAt dd_RC_step 32 rfl) (by decide) (fun _ => ?_) (fun c51 => absurd c51 (by decide))
  refine v_iload_n G (decAt dd_RC_step 34 rfl) rfl ?_
  refine v_bipush G 28 (decAt dd_RC_step 35 rfl) (by decide) ?_
  refine v_iushr G (decAt dd_RC_step 36 rfl) ?_
  refine v_ri (y := 1) (hWr.opc rfl) ?_
  refine v_tswIn G 96 (decAt dd_RC_step 37 rfl) (by decide) (by decide) rfl (by decide) ?_
  refine v_aload_n G (decAt dd_RC_step 38 rfl) rfl ?_
  refine v_aload_n G (decAt dd_RC_step 39 rfl) rfl ?_
  refine v_geti G (decAt dd_RC_step 40 rfl) f_RC_163 ?_
  refine v_ri (y := a) (by simp only [up2]; exact ha) ?_
  refine v_puti G (decAt dd_RC_step 41 rfl) f_RC_166 rfl rfl rfl ?_
  refine v_iload_n G (decAt dd_RC_step 42 rfl) rfl ?_
  refine v_ldc G (decAt dd_RC_step 43 rfl) tm_639 ?_
  refine v_iand G (decAt dd_RC_step 44 rfl) ?_
  refine v_ri (y := 134217728) (hWr.and (K := 4) (by decide) (by decide) (by decide)) ?_
  refine v_if_ne G 119 (decAt dd_RC_step 45 rfl) (by decide) (fun _ => ?_) (fun c108 => absurd c108 (by decide))
  refine v_aload_n G (decAt dd_RC_step 50 rfl) rfl ?_
  refine v_iload_n G (decAt dd_RC_step 51 rfl) rfl ?_
  refine v_if_eq G 133 (decAt dd_RC_step 52 rfl) (by decide) (fun _ => ?_) (fun c121 => absurd c121 (by decide))
  refine v_iload_n G (decAt dd_RC_step 58 rfl) rfl ?_
  refine v_ldc G (decAt dd_RC_step 59 rfl) tm_632 ?_
  refine v_icmp_lt G 154 (decAt dd_RC_step 60 rfl) (by decide) (fun c136 => ?_) (fun c136 => ?_)
  · skip
    exact absurd c136 (nI_nlt (b := 65536) (by omega) (by omega))
  · skip
    refine v_aload_n G (decAt dd_RC_step 61 rfl) rfl ?_
    refine v_geto G (decAt dd_RC_step 62 rfl) f_RC_44 ?_
    refine v_geta G (decAt dd_RC_step 63 rfl) f_RC_154 ?_
    refine v_iload_n G (decAt dd_RC_step 64 rfl) rfl ?_
    refine v_ldc G (decAt dd_RC_step 65 rfl) tm_632 ?_
    refine v_isub G (decAt dd_RC_step 66 rfl) ?_
    refine v_ri (y := (nI q)) (by rw [Nat.add_comm]; exact nI_sub q 65536) ?_
    refine v_iald G 26 q (decAt dd_RC_step 67 rfl) (by decide) rfl rfl (by omega) ?_
    refine v_ri (y := x) hx ?_
    refine v_goto G 160 (decAt dd_RC_step 68 rfl) (by decide) ?_
    refine v_puti G (decAt dd_RC_step 73 rfl) f_RC_163 rfl rfl rfl ?_
    refine v_goto G 239 (decAt dd_RC_step 74 rfl) (by decide) ?_
    exact v_vret G (decAt dd_RC_step 112 rfl) rfl ⟨rfl, rfl, rfl, rfl, rfl, rfl⟩
set_option maxHeartbeats 4000000 in
theorem c_RC_step_2 (l : Launch) {E : Bs} (hE : Hb E) {ρ : Nat → Nat} {g A : Nat → Nat → Int32} {n : Nat → Nat} {tx : Value} {pp : Nat} {a b : Int32} (hc : g 0 20 = nI (65536 + pp)) (hp : pp < 4096) (h26 : n 26 = 4096) (ha : g 0 18 = a) (hb : g 0 19 = b) {j : Nat} (hw : A 26 pp = finW (2, nI j)) (hj : j < 16) (h9 : n 9 = 80) : CW l E DC AC y_RC_step b_RC_step 4 none ({ frames := 4, cells := 0, slots := 0, locals := 89 } : Room) [.ref (E.o 0)] ρ g A n tx (fun r ρ' g' A' n' tx' => r = none ∧ ρ' = ρ ∧ g' = up2 (up2 (up2 g 0 20 (nI (65536 + (pp + 1)))) 0 19 (a)) 0 18 (A 9 (64 + j)) ∧ A' = A ∧ n' = n ∧ tx' = tx) := by
  refine CW.start [some (.ref (E.o 0)), none, none, none] hE (by decide) (Nat.le_of_ble_eq_true rfl) rfl ?_
  intro p e s m args below meth c G
  have hWr := fin_lo (i := 2) (q := j) (by decide) (by decide) rfl (by omega)
  refine v_aload_n G (decAt dd_RC_step 0 rfl) rfl ?_
  refine v_geto G (decAt dd_RC_step 1 rfl) f_RC_44 ?_
  refine v_geta G (decAt dd_RC_step 2 rfl) f_RC_154 ?_
  refine v_aload_n G (decAt dd_RC_step 3 rfl) rfl ?_
  refine v_geti G (decAt dd_RC_step 4 rfl) f_RC_157 ?_
  refine v_ri (y := (nI (65536 + pp))) hc ?_
  refine v_ldc G (decAt dd_RC_step 5 rfl) tm_632 ?_
  refine v_isub G (decAt dd_RC_step 6 rfl) ?_
  refine v_ri (y := (nI pp)) (by rw [Nat.add_comm]; exact nI_sub pp 65536) ?_
  refine v_iald G 26 pp (decAt dd_RC_step 7 rfl) (by decide) rfl rfl (by omega) ?_
  refine v_ri (y := (finW (2, nI j))) hw ?_
  refine v_istore_1 G (decAt dd_RC_step 8 rfl) (by decide) rfl ?_
  refine v_aload_n G (decAt dd_RC_step 9 rfl) rfl ?_
  refine v_dup G (decAt dd_RC_step 10 rfl) rfl ?_
  refine v_geti G (decAt dd_RC_step 11 rfl) f_RC_157 ?_
  refine v_ri (y := (nI (65536 + pp))) hc ?_
  refine v_iconst G 1 (decAt dd_RC_step 12 rfl) (by decide) ?_
  refine v_iadd G (decAt dd_RC_step 13 rfl) ?_
  refine v_ri (y := (nI (65536 + (pp + 1)))) (nI_1 _) ?_
  refine v_puti G (decAt dd_RC_step 14 rfl) f_RC_157 rfl rfl rfl ?_
  refine v_iload_n G (decAt dd_RC_step 15 rfl) rfl ?_
  refine v_bipush G 7 (decAt dd_RC_step 16 rfl) (by decide) ?_
  refine v_ishl G (decAt dd_RC_step 17 rfl) ?_
  refine v_bipush G 7 (decAt dd_RC_step 18 rfl) (by decide) ?_
  refine v_ishr G (decAt dd_RC_step 19 rfl) ?_
  refine v_ri (y := (nI j)) (hWr.num (Wr.lo (by omega))) ?_
  refine v_istore_2 G (decAt dd_RC_step 20 rfl) (by decide) rfl ?_
  refine v_iload_n G (decAt dd_RC_step 21 rfl) rfl ?_
  refine v_ldc G (decAt dd_RC_step 22 rfl) tm_637 ?_
  refine v_iand G (decAt dd_RC_step 23 rfl) ?_
  refine v_ri (y := 0) (hWr.and (K := 1) (by decide) (by decide) (by decide)) ?_
  refine v_if_eq G 45 (decAt dd_RC_step 24 rfl) (by decide) (fun _ => ?_) (fun c38 => absurd c38 (by decide))
  refine v_iconst G 0 (decAt dd_RC_step 27 rfl) (by decide) ?_
  refine v_istore_3 G (decAt dd_RC_step 28 rfl) (by decide) rfl ?_
  refine v_iload_n G (decAt dd_RC_step 29 rfl) rfl ?_
  refine v_ldc G (decAt dd_RC_step 30 rfl) tm_638 ?_
  refine v_iand G (decAt dd_RC_step 31 rfl) ?_
  refine v_ri (y := 67108864) (hWr.and (K := 2) (by decide) (by decide) (by decide)) ?_
  refine v_if_eq G 57 (decAt dd_RC_step 32 rfl) (by decide) (fun c51 => absurd c51 (by decide)) (fun _ => ?_)
  refine v_iinc_2 G (nI (64 + j)) (decAt dd_RC_step 33 rfl) ((by rw [Nat.add_comm 64]; exact nI_add j 64)) (by decide) rfl ?_
  refine v_iload_n G (decAt dd_RC_step 34 rfl) rfl ?_
  refine v_bipush G 28 (decAt dd_RC_step 35 rfl) (by decide) ?_
  refine v_iushr G (decAt dd_RC_step 36 rfl) ?_
  refine v_ri (y := 1) (hWr.opc rfl) ?_
  refine v_tswIn G 96 (decAt dd_RC_step 37 rfl) (by decide) (by decide) rfl (by decide) ?_
  refine v_aload_n G (decAt dd_RC_step 38 rfl) rfl ?_
  refine v_aload_n G (decAt dd_RC_step 39 rfl) rfl ?_
  refine v_geti G (decAt dd_RC_step 40 rfl) f_RC_163 ?_
  refine v_ri (y := a) (by simp only [up2]; exact ha) ?_
  refine v_puti G (decAt dd_RC_step 41 rfl) f_RC_166 rfl rfl rfl ?_
  refine v_iload_n G (decAt dd_RC_step 42 rfl) rfl ?_
  refine v_ldc G (decAt dd_RC_step 43 rfl) tm_639 ?_
  refine v_iand G (decAt dd_RC_step 44 rfl) ?_
  refine v_ri (y := 134217728) (hWr.and (K := 4) (by decide) (by decide) (by decide)) ?_
  refine v_if_ne G 119 (decAt dd_RC_step 45 rfl) (by decide) (fun _ => ?_) (fun c108 => absurd c108 (by decide))
  refine v_aload_n G (decAt dd_RC_step 50 rfl) rfl ?_
  refine v_iload_n G (decAt dd_RC_step 51 rfl) rfl ?_
  refine v_if_eq G 133 (decAt dd_RC_step 52 rfl) (by decide) (fun _ => ?_) (fun c121 => absurd c121 (by decide))
  refine v_iload_n G (decAt dd_RC_step 58 rfl) rfl ?_
  refine v_ldc G (decAt dd_RC_step 59 rfl) tm_632 ?_
  refine v_icmp_lt G 154 (decAt dd_RC_step 60 rfl) (by decide) (fun c136 => ?_) (fun c136 => ?_)
  · skip
    refine v_aload_n G (decAt dd_RC_step 69 rfl) rfl ?_
    refine v_geta G (decAt dd_RC_step 70 rfl) f_RC_69 ?_
    refine v_iload_n G (decAt dd_RC_step 71 rfl) rfl ?_
    refine v_iald G 9 (64 + j) (decAt dd_RC_step 72 rfl) (by decide) rfl rfl (by omega) ?_
    refine v_puti G (decAt dd_RC_step 73 rfl) f_RC_163 rfl rfl rfl ?_
    refine v_goto G 239 (decAt dd_RC_step 74 rfl) (by decide) ?_
    exact v_vret G (decAt dd_RC_step 112 rfl) rfl ⟨rfl, rfl, rfl, rfl, rfl, rfl⟩
  · skip
    exact absurd (nI_lt (b := 65536) (by omega) (by omega)) c136
set_option maxHeartbeats 4000000 in
theorem c_RC_step_5 (l : Launch) {E : Bs} (hE : Hb E) {ρ : Nat → Nat} {g A : Nat → Nat → Int32} {n : Nat → Nat} {tx : Value} {pp : Nat} {a b : Int32} (hc : g 0 20 = nI (65536 + pp)) (hp : pp < 4096) (h26 : n 26 = 4096) (ha : g 0 18 = a) (hb : g 0 19 = b) {k : Nat} (hw : A 26 pp = finW (5, nI k)) (hk : k < 61) (h10 : n 10 = 100) : CW l E DC AC y_RC_step b_RC_step 4 none ({ frames := 4, cells := 0, slots := 0, locals := 89 } : Room) [.ref (E.o 0)] ρ g A n tx (fun r ρ' g' A' n' tx' => r = none ∧ ρ' = ρ ∧ g' = up2 (up2 (up2 g 0 20 (nI (65536 + (pp + 1)))) 0 19 (a)) 0 18 (A 10 k) ∧ A' = A ∧ n' = n ∧ tx' = tx) := by
  refine CW.start [some (.ref (E.o 0)), none, none, none] hE (by decide) (Nat.le_of_ble_eq_true rfl) rfl ?_
  intro p e s m args below meth c G
  have hWr := fin_lo (i := 5) (q := k) (by decide) (by decide) rfl (by omega)
  refine v_aload_n G (decAt dd_RC_step 0 rfl) rfl ?_
  refine v_geto G (decAt dd_RC_step 1 rfl) f_RC_44 ?_
  refine v_geta G (decAt dd_RC_step 2 rfl) f_RC_154 ?_
  refine v_aload_n G (decAt dd_RC_step 3 rfl) rfl ?_
  refine v_geti G (decAt dd_RC_step 4 rfl) f_RC_157 ?_
  refine v_ri (y := (nI (65536 + pp))) hc ?_
  refine v_ldc G (decAt dd_RC_step 5 rfl) tm_632 ?_
  refine v_isub G (decAt dd_RC_step 6 rfl) ?_
  refine v_ri (y := (nI pp)) (by rw [Nat.add_comm]; exact nI_sub pp 65536) ?_
  refine v_iald G 26 pp (decAt dd_RC_step 7 rfl) (by decide) rfl rfl (by omega) ?_
  refine v_ri (y := (finW (5, nI k))) hw ?_
  refine v_istore_1 G (decAt dd_RC_step 8 rfl) (by decide) rfl ?_
  refine v_aload_n G (decAt dd_RC_step 9 rfl) rfl ?_
  refine v_dup G (decAt dd_RC_step 10 rfl) rfl ?_
  refine v_geti G (decAt dd_RC_step 11 rfl) f_RC_157 ?_
  refine v_ri (y := (nI (65536 + pp))) hc ?_
  refine v_iconst G 1 (decAt dd_RC_step 12 rfl) (by decide) ?_
  refine v_iadd G (decAt dd_RC_step 13 rfl) ?_
  refine v_ri (y := (nI (65536 + (pp + 1)))) (nI_1 _) ?_
  refine v_puti G (decAt dd_RC_step 14 rfl) f_RC_157 rfl rfl rfl ?_
  refine v_iload_n G (decAt dd_RC_step 15 rfl) rfl ?_
  refine v_bipush G 7 (decAt dd_RC_step 16 rfl) (by decide) ?_
  refine v_ishl G (decAt dd_RC_step 17 rfl) ?_
  refine v_bipush G 7 (decAt dd_RC_step 18 rfl) (by decide) ?_
  refine v_ishr G (decAt dd_RC_step 19 rfl) ?_
  refine v_ri (y := (nI k)) (hWr.num (Wr.lo (by omega))) ?_
  refine v_istore_2 G (decAt dd_RC_step 20 rfl) (by decide) rfl ?_
  refine v_iload_n G (decAt dd_RC_step 21 rfl) rfl ?_
  refine v_ldc G (decAt dd_RC_step 22 rfl) tm_637 ?_
  refine v_iand G (decAt dd_RC_step 23 rfl) ?_
  refine v_ri (y := 33554432) (hWr.and (K := 1) (by decide) (by decide) (by decide)) ?_
  refine v_if_eq G 45 (decAt dd_RC_step 24 rfl) (by decide) (fun c38 => absurd c38 (by decide)) (fun _ => ?_)
  refine v_iconst G 1 (decAt dd_RC_step 25 rfl) (by decide) ?_
  refine v_goto G 46 (decAt dd_RC_step 26 rfl) (by decide) ?_
  refine v_istore_3 G (decAt dd_RC_step 28 rfl) (by decide) rfl ?_
  refine v_iload_n G (decAt dd_RC_step 29 rfl) rfl ?_
  refine v_ldc G (decAt dd_RC_step 30 rfl) tm_638 ?_
  refine v_iand G (decAt dd_RC_step 31 rfl) ?_
  refine v_ri (y := 0) (hWr.and (K := 2) (by decide) (by decide) (by decide)) ?_
  refine v_if_eq G 57 (decAt dd_RC_step 32 rfl) (by decide) (fun _ => ?_) (fun c51 => absurd c51 (by decide))
  refine v_iload_n G (decAt dd_RC_step 34 rfl) rfl ?_
  refine v_bipush G 28 (decAt dd_RC_step 35 rfl) (by decide) ?_
  refine v_iushr G (decAt dd_RC_step 36 rfl) ?_
  refine v_ri (y := 1) (hWr.opc rfl) ?_
  refine v_tswIn G 96 (decAt dd_RC_step 37 rfl) (by decide) (by decide) rfl (by decide) ?_
  refine v_aload_n G (decAt dd_RC_step 38 rfl) rfl ?_
  refine v_aload_n G (decAt dd_RC_step 39 rfl) rfl ?_
  refine v_geti G (decAt dd_RC_step 40 rfl) f_RC_163 ?_
  refine v_ri (y := a) (by simp only [up2]; exact ha) ?_
  refine v_puti G (decAt dd_RC_step 41 rfl) f_RC_166 rfl rfl rfl ?_
  refine v_iload_n G (decAt dd_RC_step 42 rfl) rfl ?_
  refine v_ldc G (decAt dd_RC_step 43 rfl) tm_639 ?_
  refine v_iand G (decAt dd_RC_step 44 rfl) ?_
  refine v_ri (y := 134217728) (hWr.and (K := 4) (by decide) (by decide) (by decide)) ?_
  refine v_if_ne G 119 (decAt dd_RC_step 45 rfl) (by decide) (fun _ => ?_) (fun c108 => absurd c108 (by decide))
  refine v_aload_n G (decAt dd_RC_step 50 rfl) rfl ?_
  refine v_iload_n G (decAt dd_RC_step 51 rfl) rfl ?_
  refine v_if_eq G 133 (decAt dd_RC_step 52 rfl) (by decide) (fun c121 => absurd c121 (by decide)) (fun _ => ?_)
  refine v_aload_n G (decAt dd_RC_step 53 rfl) rfl ?_
  refine v_geta G (decAt dd_RC_step 54 rfl) f_RC_72 ?_
  refine v_iload_n G (decAt dd_RC_step 55 rfl) rfl ?_
  refine v_iald G 10 k (decAt dd_RC_step 56 rfl) (by decide) rfl rfl (by omega) ?_
  refine v_goto G 160 (decAt dd_RC_step 57 rfl) (by decide) ?_
  refine v_puti G (decAt dd_RC_step 73 rfl) f_RC_163 rfl rfl rfl ?_
  refine v_goto G 239 (decAt dd_RC_step 74 rfl) (by decide) ?_
  exact v_vret G (decAt dd_RC_step 112 rfl) rfl ⟨rfl, rfl, rfl, rfl, rfl, rfl⟩
set_option maxHeartbeats 4000000 in
theorem c_RC_step_6 (l : Launch) {E : Bs} (hE : Hb E) {ρ : Nat → Nat} {g A : Nat → Nat → Int32} {n : Nat → Nat} {tx : Value} {pp : Nat} {a b : Int32} (hc : g 0 20 = nI (65536 + pp)) (hp : pp < 4096) (h26 : n 26 = 4096) (ha : g 0 18 = a) (hb : g 0 19 = b) {k : Nat} (hw : A 26 pp = finW (6, nI k)) (hk : k < 61) (h10 : n 10 = 100) : CW l E DC AC y_RC_step b_RC_step 4 none ({ frames := 4, cells := 0, slots := 0, locals := 89 } : Room) [.ref (E.o 0)] ρ g A n tx (fun r ρ' g' A' n' tx' => r = none ∧ ρ' = ρ ∧ g' = up2 g 0 20 (nI (65536 + (pp + 1))) ∧ A' = va_up A 10 (va_up (A 10) k a) ∧ n' = n ∧ tx' = tx) := by
  refine CW.start [some (.ref (E.o 0)), none, none, none] hE (by decide) (Nat.le_of_ble_eq_true rfl) rfl ?_
  intro p e s m args below meth c G
  have hWr := fin_lo (i := 6) (q := k) (by decide) (by decide) rfl (by omega)
  refine v_aload_n G (decAt dd_RC_step 0 rfl) rfl ?_
  refine v_geto G (decAt dd_RC_step 1 rfl) f_RC_44 ?_
  refine v_geta G (decAt dd_RC_step 2 rfl) f_RC_154 ?_
  refine v_aload_n G (decAt dd_RC_step 3 rfl) rfl ?_
  refine v_geti G (decAt dd_RC_step 4 rfl) f_RC_157 ?_
  refine v_ri (y := (nI (65536 + pp))) hc ?_
  refine v_ldc G (decAt dd_RC_step 5 rfl) tm_632 ?_
  refine v_isub G (decAt dd_RC_step 6 rfl) ?_
  refine v_ri (y := (nI pp)) (by rw [Nat.add_comm]; exact nI_sub pp 65536) ?_
  refine v_iald G 26 pp (decAt dd_RC_step 7 rfl) (by decide) rfl rfl (by omega) ?_
  refine v_ri (y := (finW (6, nI k))) hw ?_
  refine v_istore_1 G (decAt dd_RC_step 8 rfl) (by decide) rfl ?_
  refine v_aload_n G (decAt dd_RC_step 9 rfl) rfl ?_
  refine v_dup G (decAt dd_RC_step 10 rfl) rfl ?_
  refine v_geti G (decAt dd_RC_step 11 rfl) f_RC_157 ?_
  refine v_ri (y := (nI (65536 + pp))) hc ?_
  refine v_iconst G 1 (decAt dd_RC_step 12 rfl) (by decide) ?_
  refine v_iadd G (decAt dd_RC_step 13 rfl) ?_
  refine v_ri (y := (nI (65536 + (pp + 1)))) (nI_1 _) ?_
  refine v_puti G (decAt dd_RC_step 14 rfl) f_RC_157 rfl rfl rfl ?_
  refine v_iload_n G (decAt dd_RC_step 15 rfl) rfl ?_
  refine v_bipush G 7 (decAt dd_RC_step 16 rfl) (by decide) ?_
  refine v_ishl G (decAt dd_RC_step 17 rfl) ?_
  refine v_bipush G 7 (decAt dd_RC_step 18 rfl) (by decide) ?_
  refine v_ishr G (decAt dd_RC_step 19 rfl) ?_
  refine v_ri (y := (nI k)) (hWr.num (Wr.lo (by omega))) ?_
  refine v_istore_2 G (decAt dd_RC_step 20 rfl) (by decide) rfl ?_
  refine v_iload_n G (decAt dd_RC_step 21 rfl) rfl ?_
  refine v_ldc G (decAt dd_RC_step 22 rfl) tm_637 ?_
  refine v_iand G (decAt dd_RC_step 23 rfl) ?_
  refine v_ri (y := 33554432) (hWr.and (K := 1) (by decide) (by decide) (by decide)) ?_
  refine v_if_eq G 45 (decAt dd_RC_step 24 rfl) (by decide) (fun c38 => absurd c38 (by decide)) (fun _ => ?_)
  refine v_iconst G 1 (decAt dd_RC_step 25 rfl) (by decide) ?_
  refine v_goto G 46 (decAt dd_RC_step 26 rfl) (by decide) ?_
  refine v_istore_3 G (decAt dd_RC_step 28 rfl) (by decide) rfl ?_
  refine v_iload_n G (decAt dd_RC_step 29 rfl) rfl ?_
  refine v_ldc G (decAt dd_RC_step 30 rfl) tm_638 ?_
  refine v_iand G (decAt dd_RC_step 31 rfl) ?_
  refine v_ri (y := 0) (hWr.and (K := 2) (by decide) (by decide) (by decide)) ?_
  refine v_if_eq G 57 (decAt dd_RC_step 32 rfl) (by decide) (fun _ => ?_) (fun c51 => absurd c51 (by decide))
  refine v_iload_n G (decAt dd_RC_step 34 rfl) rfl ?_
  refine v_bipush G 28 (decAt dd_RC_step 35 rfl) (by decide) ?_
  refine v_iushr G (decAt dd_RC_step 36 rfl) ?_
  refine v_ri (y := 2) (hWr.opc rfl) ?_
  refine v_tswIn G 166 (decAt dd_RC_step 37 rfl) (by decide) (by decide) rfl (by decide) ?_
  refine v_iload_n G (decAt dd_RC_step 75 rfl) rfl ?_
  refine v_if_eq G 183 (decAt dd_RC_step 76 rfl) (by decide) (fun c167 => absurd c167 (by decide)) (fun _ => ?_)
  refine v_aload_n G (decAt dd_RC_step 77 rfl) rfl ?_
  refine v_geta G (decAt dd_RC_step 78 rfl) f_RC_72 ?_
  refine v_iload_n G (decAt dd_RC_step 79 rfl) rfl ?_
  refine v_aload_n G (decAt dd_RC_step 80 rfl) rfl ?_
  refine v_geti G (decAt dd_RC_step 81 rfl) f_RC_163 ?_
  refine v_ri (y := a) (by simp only [up2]; exact ha) ?_
  refine v_iast G 10 k (decAt dd_RC_step 82 rfl) (by decide) rfl rfl (by omega) ?_
  refine v_goto G 239 (decAt dd_RC_step 83 rfl) (by decide) ?_
  exact v_vret G (decAt dd_RC_step 112 rfl) rfl ⟨rfl, rfl, rfl, rfl, rfl, rfl⟩
set_option maxHeartbeats 4000000 in
theorem c_RC_step_7 (l : Launch) {E : Bs} (hE : Hb E) {ρ : Nat → Nat} {g A : Nat → Nat → Int32} {n : Nat → Nat} {tx : Value} {pp : Nat} {a b : Int32} (hc : g 0 20 = nI (65536 + pp)) (hp : pp < 4096) (h26 : n 26 = 4096) (ha : g 0 18 = a) (hb : g 0 19 = b) {j : Nat} (hw : A 26 pp = finW (7, nI j)) (hj : j < 16) (h9 : n 9 = 80) : CW l E DC AC y_RC_step b_RC_step 4 none ({ frames := 4, cells := 0, slots := 0, locals := 89 } : Room) [.ref (E.o 0)] ρ g A n tx (fun r ρ' g' A' n' tx' => r = none ∧ ρ' = ρ ∧ g' = up2 g 0 20 (nI (65536 + (pp + 1))) ∧ A' = va_up A 9 (va_up (A 9) (64 + j) a) ∧ n' = n ∧ tx' = tx) := by
  refine CW.start [some (.ref (E.o 0)), none, none, none] hE (by decide) (Nat.le_of_ble_eq_true rfl) rfl ?_
  intro p e s m args below meth c G
  have hWr := fin_lo (i := 7) (q := j) (by decide) (by decide) rfl (by omega)
  refine v_aload_n G (decAt dd_RC_step 0 rfl) rfl ?_
  refine v_geto G (decAt dd_RC_step 1 rfl) f_RC_44 ?_
  refine v_geta G (decAt dd_RC_step 2 rfl) f_RC_154 ?_
  refine v_aload_n G (decAt dd_RC_step 3 rfl) rfl ?_
  refine v_geti G (decAt dd_RC_step 4 rfl) f_RC_157 ?_
  refine v_ri (y := (nI (65536 + pp))) hc ?_
  refine v_ldc G (decAt dd_RC_step 5 rfl) tm_632 ?_
  refine v_isub G (decAt dd_RC_step 6 rfl) ?_
  refine v_ri (y := (nI pp)) (by rw [Nat.add_comm]; exact nI_sub pp 65536) ?_
  refine v_iald G 26 pp (decAt dd_RC_step 7 rfl) (by decide) rfl rfl (by omega) ?_
  refine v_ri (y := (finW (7, nI j))) hw ?_
  refine v_istore_1 G (decAt dd_RC_step 8 rfl) (by decide) rfl ?_
  refine v_aload_n G (decAt dd_RC_step 9 rfl) rfl ?_
  refine v_dup G (decAt dd_RC_step 10 rfl) rfl ?_
  refine v_geti G (decAt dd_RC_step 11 rfl) f_RC_157 ?_
  refine v_ri (y := (nI (65536 + pp))) hc ?_
  refine v_iconst G 1 (decAt dd_RC_step 12 rfl) (by decide) ?_
  refine v_iadd G (decAt dd_RC_step 13 rfl) ?_
  refine v_ri (y := (nI (65536 + (pp + 1)))) (nI_1 _) ?_
  refine v_puti G (decAt dd_RC_step 14 rfl) f_RC_157 rfl rfl rfl ?_
  refine v_iload_n G (decAt dd_RC_step 15 rfl) rfl ?_
  refine v_bipush G 7 (decAt dd_RC_step 16 rfl) (by decide) ?_
  refine v_ishl G (decAt dd_RC_step 17 rfl) ?_
  refine v_bipush G 7 (decAt dd_RC_step 18 rfl) (by decide) ?_
  refine v_ishr G (decAt dd_RC_step 19 rfl) ?_
  refine v_ri (y := (nI j)) (hWr.num (Wr.lo (by omega))) ?_
  refine v_istore_2 G (decAt dd_RC_step 20 rfl) (by decide) rfl ?_
  refine v_iload_n G (decAt dd_RC_step 21 rfl) rfl ?_
  refine v_ldc G (decAt dd_RC_step 22 rfl) tm_637 ?_
  refine v_iand G (decAt dd_RC_step 23 rfl) ?_
  refine v_ri (y := 0) (hWr.and (K := 1) (by decide) (by decide) (by decide)) ?_
  refine v_if_eq G 45 (decAt dd_RC_step 24 rfl) (by decide) (fun _ => ?_) (fun c38 => absurd c38 (by decide))
  refine v_iconst G 0 (decAt dd_RC_step 27 rfl) (by decide) ?_
  refine v_istore_3 G (decAt dd_RC_step 28 rfl) (by decide) rfl ?_
  refine v_iload_n G (decAt dd_RC_step 29 rfl) rfl ?_
  refine v_ldc G (decAt dd_RC_step 30 rfl) tm_638 ?_
  refine v_iand G (decAt dd_RC_step 31 rfl) ?_
  refine v_ri (y := 67108864) (hWr.and (K := 2) (by decide) (by decide) (by decide)) ?_
  refine v_if_eq G 57 (decAt dd_RC_step 32 rfl) (by decide) (fun c51 => absurd c51 (by decide)) (fun _ => ?_)
  refine v_iinc_2 G (nI (64 + j)) (decAt dd_RC_step 33 rfl) ((by rw [Nat.add_comm 64]; exact nI_add j 64)) (by decide) rfl ?_
  refine v_iload_n G (decAt dd_RC_step 34 rfl) rfl ?_
  refine v_bipush G 28 (decAt dd_RC_step 35 rfl) (by decide) ?_
  refine v_iushr G (decAt dd_RC_step 36 rfl) ?_
  refine v_ri (y := 2) (hWr.opc rfl) ?_
  refine v_tswIn G 166 (decAt dd_RC_step 37 rfl) (by decide) (by decide) rfl (by decide) ?_
  refine v_iload_n G (decAt dd_RC_step 75 rfl) rfl ?_
  refine v_if_eq G 183 (decAt dd_RC_step 76 rfl) (by decide) (fun _ => ?_) (fun c167 => absurd c167 (by decide))
  refine v_aload_n G (decAt dd_RC_step 84 rfl) rfl ?_
  refine v_geta G (decAt dd_RC_step 85 rfl) f_RC_69 ?_
  refine v_iload_n G (decAt dd_RC_step 86 rfl) rfl ?_
  refine v_aload_n G (decAt dd_RC_step 87 rfl) rfl ?_
  refine v_geti G (decAt dd_RC_step 88 rfl) f_RC_163 ?_
  refine v_ri (y := a) (by simp only [up2]; exact ha) ?_
  refine v_iast G 9 (64 + j) (decAt dd_RC_step 89 rfl) (by decide) rfl rfl (by omega) ?_
  refine v_goto G 239 (decAt dd_RC_step 90 rfl) (by decide) ?_
  exact v_vret G (decAt dd_RC_step 112 rfl) rfl ⟨rfl, rfl, rfl, rfl, rfl, rfl⟩
set_option maxHeartbeats 4000000 in
theorem c_RC_step_13 (l : Launch) {E : Bs} (hE : Hb E) {ρ : Nat → Nat} {g A : Nat → Nat → Int32} {n : Nat → Nat} {tx : Value} {pp : Nat} {a b : Int32} (hc : g 0 20 = nI (65536 + pp)) (hp : pp < 4096) (h26 : n 26 = 4096) (ha : g 0 18 = a) (hb : g 0 19 = b) {q : Nat} (hw : A 26 pp = finW (13, nI q)) (hq : q < 4096) : CW l E DC AC y_RC_step b_RC_step 4 none ({ frames := 4, cells := 0, slots := 0, locals := 89 } : Room) [.ref (E.o 0)] ρ g A n tx (fun r ρ' g' A' n' tx' => r = none ∧ ρ' = ρ ∧ g' = up2 g 0 20 (nI (65536 + q)) ∧ A' = A ∧ n' = n ∧ tx' = tx) := by
  refine CW.start [some (.ref (E.o 0)), none, none, none] hE (by decide) (Nat.le_of_ble_eq_true rfl) rfl ?_
  intro p e s m args below meth c G
  have hWr := fin_lb (i := 13) (by decide) rfl hq
  refine v_aload_n G (decAt dd_RC_step 0 rfl) rfl ?_
  refine v_geto G (decAt dd_RC_step 1 rfl) f_RC_44 ?_
  refine v_geta G (decAt dd_RC_step 2 rfl) f_RC_154 ?_
  refine v_aload_n G (decAt dd_RC_step 3 rfl) rfl ?_
  refine v_geti G (decAt dd_RC_step 4 rfl) f_RC_157 ?_
  refine v_ri (y := (nI (65536 + pp))) hc ?_
  refine v_ldc G (decAt dd_RC_step 5 rfl) tm_632 ?_
  refine v_isub G (decAt dd_RC_step 6 rfl) ?_
  refine v_ri (y := (nI pp)) (by rw [Nat.add_comm]; exact nI_sub pp 65536) ?_
  refine v_iald G 26 pp (decAt dd_RC_step 7 rfl) (by decide) rfl rfl (by omega) ?_
  refine v_ri (y := (finW (13, nI q))) hw ?_
  refine v_istore_1 G (decAt dd_RC_step 8 rfl) (by decide) rfl ?_
  refine v_aload_n G (decAt dd_RC_step 9 rfl) rfl ?_
  refine v_dup G (decAt dd_RC_step 10 rfl) rfl ?_
  refine v_geti G (decAt dd_RC_step 11 rfl) f_RC_157 ?_
  refine v_ri (y := (nI (65536 + pp))) hc ?_
  refine v_iconst G 1 (decAt dd_RC_step 12 rfl) (by decide) ?_
  refine v_iadd G (decAt dd_RC_step 13 rfl) ?_
  refine v_ri (y := (nI (65536 + (pp + 1)))) (nI_1 _) ?_
  refine v_puti G (decAt dd_RC_step 14 rfl) f_RC_157 rfl rfl rfl ?_
  refine v_iload_n G (decAt dd_RC_step 15 rfl) rfl ?_
  refine v_bipush G 7 (decAt dd_RC_step 16 rfl) (by decide) ?_
  refine v_ishl G (decAt dd_RC_step 17 rfl) ?_
  refine v_bipush G 7 (decAt dd_RC_step 18 rfl) (by decide) ?_
  refine v_ishr G (decAt dd_RC_step 19 rfl) ?_
  refine v_ri (y := (nI (65536 + q))) (hWr.num (Wr.lo (by omega))) ?_
  refine v_istore_2 G (decAt dd_RC_step 20 rfl) (by decide) rfl ?_
  refine v_iload_n G (decAt dd_RC_step 21 rfl) rfl ?_
  refine v_ldc G (decAt dd_RC_step 22 rfl) tm_637 ?_
  refine v_iand G (decAt dd_RC_step 23 rfl) ?_
  refine v_ri (y := 0) (hWr.and (K := 1) (by decide) (by decide) (by decide)) ?_
  refine v_if_eq G 45 (decAt dd_RC_step 24 rfl) (by decide) (fun _ => ?_) (fun c38 => absurd c38 (by decide))
  refine v_iconst G 0 (decAt dd_RC_step 27 rfl) (by decide) ?_
  refine v_istore_3 G (decAt dd_RC_step 28 rfl) (by decide) rfl ?_
  refine v_iload_n G (decAt dd_RC_step 29 rfl) rfl ?_
  refine v_ldc G (decAt dd_RC_step 30 rfl) tm_638 ?_
  refine v_iand G (decAt dd_RC_step 31 rfl) ?_
  refine v_ri (y := 0) (hWr.and (K := 2) (by decide) (by decide) (by decide)) ?_
  refine v_if_eq G 57 (decAt dd_RC_step 32 rfl) (by decide) (fun _ => ?_) (fun c51 => absurd c51 (by decide))
  refine v_iload_n G (decAt dd_RC_step 34 rfl) rfl ?_
  refine v_bipush G 28 (decAt dd_RC_step 35 rfl) (by decide) ?_
  refine v_iushr G (decAt dd_RC_step 36 rfl) ?_
  refine v_ri (y := 3) (hWr.opc rfl) ?_
  refine v_tswIn G 196 (decAt dd_RC_step 37 rfl) (by decide) (by decide) rfl (by decide) ?_
  refine v_aload_n G (decAt dd_RC_step 91 rfl) rfl ?_
  refine v_iload_n G (decAt dd_RC_step 92 rfl) rfl ?_
  refine v_puti G (decAt dd_RC_step 93 rfl) f_RC_157 rfl rfl rfl ?_
  refine v_goto G 239 (decAt dd_RC_step 94 rfl) (by decide) ?_
  exact v_vret G (decAt dd_RC_step 112 rfl) rfl ⟨rfl, rfl, up2_up2 _ _ _ _ _, rfl, rfl, rfl⟩
set_option maxHeartbeats 4000000 in
theorem c_RC_step_12 (l : Launch) {E : Bs} (hE : Hb E) {ρ : Nat → Nat} {g A : Nat → Nat → Int32} {n : Nat → Nat} {tx : Value} {pp : Nat} {a b : Int32} (hc : g 0 20 = nI (65536 + pp)) (hp : pp < 4096) (h26 : n 26 = 4096) (ha : g 0 18 = a) (hb : g 0 19 = b) {q : Nat} (hw : A 26 pp = finW (12, nI q)) (hq : q < 4096) : CW l E DC AC y_RC_step b_RC_step 4 none ({ frames := 4, cells := 0, slots := 0, locals := 89 } : Room) [.ref (E.o 0)] ρ g A n tx (fun r ρ' g' A' n' tx' => r = none ∧ ρ' = ρ ∧ g' = up2 g 0 20 (if a = 0 then nI (65536 + (pp + 1)) else nI (65536 + (q))) ∧ A' = A ∧ n' = n ∧ tx' = tx) := by
  refine CW.start [some (.ref (E.o 0)), none, none, none] hE (by decide) (Nat.le_of_ble_eq_true rfl) rfl ?_
  intro p e s m args below meth c G
  have hWr := fin_lb (i := 12) (by decide) rfl hq
  refine v_aload_n G (decAt dd_RC_step 0 rfl) rfl ?_
  refine v_geto G (decAt dd_RC_step 1 rfl) f_RC_44 ?_
  refine v_geta G (decAt dd_RC_step 2 rfl) f_RC_154 ?_
  refine v_aload_n G (decAt dd_RC_step 3 rfl) rfl ?_
  refine v_geti G (decAt dd_RC_step 4 rfl) f_RC_157 ?_
  refine v_ri (y := (nI (65536 + pp))) hc ?_
  refine v_ldc G (decAt dd_RC_step 5 rfl) tm_632 ?_
  refine v_isub G (decAt dd_RC_step 6 rfl) ?_
  refine v_ri (y := (nI pp)) (by rw [Nat.add_comm]; exact nI_sub pp 65536) ?_
  refine v_iald G 26 pp (decAt dd_RC_step 7 rfl) (by decide) rfl rfl (by omega) ?_
  refine v_ri (y := (finW (12, nI q))) hw ?_
  refine v_istore_1 G (decAt dd_RC_step 8 rfl) (by decide) rfl ?_
  refine v_aload_n G (decAt dd_RC_step 9 rfl) rfl ?_
  refine v_dup G (decAt dd_RC_step 10 rfl) rfl ?_
  refine v_geti G (decAt dd_RC_step 11 rfl) f_RC_157 ?_
  refine v_ri (y := (nI (65536 + pp))) hc ?_
  refine v_iconst G 1 (decAt dd_RC_step 12 rfl) (by decide) ?_
  refine v_iadd G (decAt dd_RC_step 13 rfl) ?_
  refine v_ri (y := (nI (65536 + (pp + 1)))) (nI_1 _) ?_
  refine v_puti G (decAt dd_RC_step 14 rfl) f_RC_157 rfl rfl rfl ?_
  refine v_iload_n G (decAt dd_RC_step 15 rfl) rfl ?_
  refine v_bipush G 7 (decAt dd_RC_step 16 rfl) (by decide) ?_
  refine v_ishl G (decAt dd_RC_step 17 rfl) ?_
  refine v_bipush G 7 (decAt dd_RC_step 18 rfl) (by decide) ?_
  refine v_ishr G (decAt dd_RC_step 19 rfl) ?_
  refine v_ri (y := (nI (65536 + q))) (hWr.num (Wr.lo (by omega))) ?_
  refine v_istore_2 G (decAt dd_RC_step 20 rfl) (by decide) rfl ?_
  refine v_iload_n G (decAt dd_RC_step 21 rfl) rfl ?_
  refine v_ldc G (decAt dd_RC_step 22 rfl) tm_637 ?_
  refine v_iand G (decAt dd_RC_step 23 rfl) ?_
  refine v_ri (y := 0) (hWr.and (K := 1) (by decide) (by decide) (by decide)) ?_
  refine v_if_eq G 45 (decAt dd_RC_step 24 rfl) (by decide) (fun _ => ?_) (fun c38 => absurd c38 (by decide))
  refine v_iconst G 0 (decAt dd_RC_step 27 rfl) (by decide) ?_
  refine v_istore_3 G (decAt dd_RC_step 28 rfl) (by decide) rfl ?_
  refine v_iload_n G (decAt dd_RC_step 29 rfl) rfl ?_
  refine v_ldc G (decAt dd_RC_step 30 rfl) tm_638 ?_
  refine v_iand G (decAt dd_RC_step 31 rfl) ?_
  refine v_ri (y := 0) (hWr.and (K := 2) (by decide) (by decide) (by decide)) ?_
  refine v_if_eq G 57 (decAt dd_RC_step 32 rfl) (by decide) (fun _ => ?_) (fun c51 => absurd c51 (by decide))
  refine v_iload_n G (decAt dd_RC_step 34 rfl) rfl ?_
  refine v_bipush G 28 (decAt dd_RC_step 35 rfl) (by decide) ?_
  refine v_iushr G (decAt dd_RC_step 36 rfl) ?_
  refine v_ri (y := 4) (hWr.opc rfl) ?_
  refine v_tswIn G 204 (decAt dd_RC_step 37 rfl) (by decide) (by decide) rfl (by decide) ?_
  refine v_aload_n G (decAt dd_RC_step 95 rfl) rfl ?_
  refine v_geti G (decAt dd_RC_step 96 rfl) f_RC_163 ?_
  refine v_ri (y := a) (by simp only [up2]; exact ha) ?_
  refine v_if_eq G 239 (decAt dd_RC_step 97 rfl) (by decide) (fun c208 => ?_) (fun c208 => ?_)
  · skip
    exact v_vret G (decAt dd_RC_step 112 rfl) rfl ⟨rfl, rfl, by rw [if_pos (by first | exact c208 | exact Classical.not_not.mp c208)], rfl, rfl, rfl⟩
  · skip
    refine v_aload_n G (decAt dd_RC_step 98 rfl) rfl ?_
    refine v_iload_n G (decAt dd_RC_step 99 rfl) rfl ?_
    refine v_puti G (decAt dd_RC_step 100 rfl) f_RC_157 rfl rfl rfl ?_
    refine v_goto G 239 (decAt dd_RC_step 101 rfl) (by decide) ?_
    exact v_vret G (decAt dd_RC_step 112 rfl) rfl ⟨rfl, rfl, by rw [if_neg (by first | exact c208 | exact Classical.not_not.mp c208)]; exact up2_up2 _ _ _ _ _, rfl, rfl, rfl⟩
set_option maxHeartbeats 4000000 in
theorem c_RC_step_15 (l : Launch) {E : Bs} (hE : Hb E) {ρ : Nat → Nat} {g A : Nat → Nat → Int32} {n : Nat → Nat} {tx : Value} {pp : Nat} {a b : Int32} (hc : g 0 20 = nI (65536 + pp)) (hp : pp < 4096) (h26 : n 26 = 4096) (ha : g 0 18 = a) (hb : g 0 19 = b) {q : Nat} (hw : A 26 pp = finW (15, nI q)) (hq : q < 4096) : CW l E DC AC y_RC_step b_RC_step 4 none ({ frames := 4, cells := 0, slots := 0, locals := 89 } : Room) [.ref (E.o 0)] ρ g A n tx (fun r ρ' g' A' n' tx' => r = none ∧ ρ' = ρ ∧ g' = up2 g 0 20 (if a = 0 then nI (65536 + (q)) else nI (65536 + (pp + 1))) ∧ A' = A ∧ n' = n ∧ tx' = tx) := by
  refine CW.start [some (.ref (E.o 0)), none, none, none] hE (by decide) (Nat.le_of_ble_eq_true rfl) rfl ?_
  intro p e s m args below meth c G
  have hWr := fin_lb (i := 15) (by decide) rfl hq
  refine v_aload_n G (decAt dd_RC_step 0 rfl) rfl ?_
  refine v_geto G (decAt dd_RC_step 1 rfl) f_RC_44 ?_
  refine v_geta G (decAt dd_RC_step 2 rfl) f_RC_154 ?_
  refine v_aload_n G (decAt dd_RC_step 3 rfl) rfl ?_
  refine v_geti G (decAt dd_RC_step 4 rfl) f_RC_157 ?_
  refine v_ri (y := (nI (65536 + pp))) hc ?_
  refine v_ldc G (decAt dd_RC_step 5 rfl) tm_632 ?_
  refine v_isub G (decAt dd_RC_step 6 rfl) ?_
  refine v_ri (y := (nI pp)) (by rw [Nat.add_comm]; exact nI_sub pp 65536) ?_
  refine v_iald G 26 pp (decAt dd_RC_step 7 rfl) (by decide) rfl rfl (by omega) ?_
  refine v_ri (y := (finW (15, nI q))) hw ?_
  refine v_istore_1 G (decAt dd_RC_step 8 rfl) (by decide) rfl ?_
  refine v_aload_n G (decAt dd_RC_step 9 rfl) rfl ?_
  refine v_dup G (decAt dd_RC_step 10 rfl) rfl ?_
  refine v_geti G (decAt dd_RC_step 11 rfl) f_RC_157 ?_
  refine v_ri (y := (nI (65536 + pp))) hc ?_
  refine v_iconst G 1 (decAt dd_RC_step 12 rfl) (by decide) ?_
  refine v_iadd G (decAt dd_RC_step 13 rfl) ?_
  refine v_ri (y := (nI (65536 + (pp + 1)))) (nI_1 _) ?_
  refine v_puti G (decAt dd_RC_step 14 rfl) f_RC_157 rfl rfl rfl ?_
  refine v_iload_n G (decAt dd_RC_step 15 rfl) rfl ?_
  refine v_bipush G 7 (decAt dd_RC_step 16 rfl) (by decide) ?_
  refine v_ishl G (decAt dd_RC_step 17 rfl) ?_
  refine v_bipush G 7 (decAt dd_RC_step 18 rfl) (by decide) ?_
  refine v_ishr G (decAt dd_RC_step 19 rfl) ?_
  refine v_ri (y := (nI (65536 + q))) (hWr.num (Wr.lo (by omega))) ?_
  refine v_istore_2 G (decAt dd_RC_step 20 rfl) (by decide) rfl ?_
  refine v_iload_n G (decAt dd_RC_step 21 rfl) rfl ?_
  refine v_ldc G (decAt dd_RC_step 22 rfl) tm_637 ?_
  refine v_iand G (decAt dd_RC_step 23 rfl) ?_
  refine v_ri (y := 0) (hWr.and (K := 1) (by decide) (by decide) (by decide)) ?_
  refine v_if_eq G 45 (decAt dd_RC_step 24 rfl) (by decide) (fun _ => ?_) (fun c38 => absurd c38 (by decide))
  refine v_iconst G 0 (decAt dd_RC_step 27 rfl) (by decide) ?_
  refine v_istore_3 G (decAt dd_RC_step 28 rfl) (by decide) rfl ?_
  refine v_iload_n G (decAt dd_RC_step 29 rfl) rfl ?_
  refine v_ldc G (decAt dd_RC_step 30 rfl) tm_638 ?_
  refine v_iand G (decAt dd_RC_step 31 rfl) ?_
  refine v_ri (y := 0) (hWr.and (K := 2) (by decide) (by decide) (by decide)) ?_
  refine v_if_eq G 57 (decAt dd_RC_step 32 rfl) (by decide) (fun _ => ?_) (fun c51 => absurd c51 (by decide))
  refine v_iload_n G (decAt dd_RC_step 34 rfl) rfl ?_
  refine v_bipush G 28 (decAt dd_RC_step 35 rfl) (by decide) ?_
  refine v_iushr G (decAt dd_RC_step 36 rfl) ?_
  refine v_ri (y := 5) (hWr.opc rfl) ?_
  refine v_tswIn G 219 (decAt dd_RC_step 37 rfl) (by decide) (by decide) rfl (by decide) ?_
  refine v_aload_n G (decAt dd_RC_step 102 rfl) rfl ?_
  refine v_geti G (decAt dd_RC_step 103 rfl) f_RC_163 ?_
  refine v_ri (y := a) (by simp only [up2]; exact ha) ?_
  refine v_if_ne G 239 (decAt dd_RC_step 104 rfl) (by decide) (fun c223 => ?_) (fun c223 => ?_)
  · skip
    exact v_vret G (decAt dd_RC_step 112 rfl) rfl ⟨rfl, rfl, by rw [if_neg (by first | exact c223 | exact Classical.not_not.mp c223)], rfl, rfl, rfl⟩
  · skip
    refine v_aload_n G (decAt dd_RC_step 105 rfl) rfl ?_
    refine v_iload_n G (decAt dd_RC_step 106 rfl) rfl ?_
    refine v_puti G (decAt dd_RC_step 107 rfl) f_RC_157 rfl rfl rfl ?_
    refine v_goto G 239 (decAt dd_RC_step 108 rfl) (by decide) ?_
    exact v_vret G (decAt dd_RC_step 112 rfl) rfl ⟨rfl, rfl, by rw [if_pos (by first | exact c223 | exact Classical.not_not.mp c223)]; exact up2_up2 _ _ _ _ _, rfl, rfl, rfl⟩
set_option maxHeartbeats 4000000 in
theorem c_RC_step_9 (l : Launch) {E : Bs} (hE : Hb E) {ρ : Nat → Nat} {g A : Nat → Nat → Int32} {n : Nat → Nat} {tx : Value} {pp : Nat} {a b : Int32} (hc : g 0 20 = nI (65536 + pp)) (hp : pp < 4096) (h26 : n 26 = 4096) (ha : g 0 18 = a) (hb : g 0 19 = b) {x : Nat} {PP : PostT} (hw : A 26 pp = finW (9, nI x)) (hx : x < 100) (M : CW l E DC AC y_RC_does b_RC_does 4 none ({ frames := 3, cells := 0, slots := 0, locals := 66 } : Room) [.ref (E.o 0), .int (nI x)] ρ (up2 g 0 20 (nI (65536 + (pp + 1)))) A n tx (fun r ρ' g' A' n' tx' => r = none ∧ PP ρ' g' A' n' tx')) : CW l E DC AC y_RC_step b_RC_step 4 none ({ frames := 4, cells := 0, slots := 0, locals := 89 } : Room) [.ref (E.o 0)] ρ g A n tx (fun r ρ' g' A' n' tx' => r = none ∧ PP ρ' g' A' n' tx') := by
  refine CW.start [some (.ref (E.o 0)), none, none, none] hE (by decide) (Nat.le_of_ble_eq_true rfl) rfl ?_
  intro p e s m args below meth c G
  have hWr := fin_lo (i := 9) (q := x) (by decide) (by decide) rfl (by omega)
  refine v_aload_n G (decAt dd_RC_step 0 rfl) rfl ?_
  refine v_geto G (decAt dd_RC_step 1 rfl) f_RC_44 ?_
  refine v_geta G (decAt dd_RC_step 2 rfl) f_RC_154 ?_
  refine v_aload_n G (decAt dd_RC_step 3 rfl) rfl ?_
  refine v_geti G (decAt dd_RC_step 4 rfl) f_RC_157 ?_
  refine v_ri (y := (nI (65536 + pp))) hc ?_
  refine v_ldc G (decAt dd_RC_step 5 rfl) tm_632 ?_
  refine v_isub G (decAt dd_RC_step 6 rfl) ?_
  refine v_ri (y := (nI pp)) (by rw [Nat.add_comm]; exact nI_sub pp 65536) ?_
  refine v_iald G 26 pp (decAt dd_RC_step 7 rfl) (by decide) rfl rfl (by omega) ?_
  refine v_ri (y := (finW (9, nI x))) hw ?_
  refine v_istore_1 G (decAt dd_RC_step 8 rfl) (by decide) rfl ?_
  refine v_aload_n G (decAt dd_RC_step 9 rfl) rfl ?_
  refine v_dup G (decAt dd_RC_step 10 rfl) rfl ?_
  refine v_geti G (decAt dd_RC_step 11 rfl) f_RC_157 ?_
  refine v_ri (y := (nI (65536 + pp))) hc ?_
  refine v_iconst G 1 (decAt dd_RC_step 12 rfl) (by decide) ?_
  refine v_iadd G (decAt dd_RC_step 13 rfl) ?_
  refine v_ri (y := (nI (65536 + (pp + 1)))) (nI_1 _) ?_
  refine v_puti G (decAt dd_RC_step 14 rfl) f_RC_157 rfl rfl rfl ?_
  refine v_iload_n G (decAt dd_RC_step 15 rfl) rfl ?_
  refine v_bipush G 7 (decAt dd_RC_step 16 rfl) (by decide) ?_
  refine v_ishl G (decAt dd_RC_step 17 rfl) ?_
  refine v_bipush G 7 (decAt dd_RC_step 18 rfl) (by decide) ?_
  refine v_ishr G (decAt dd_RC_step 19 rfl) ?_
  refine v_ri (y := (nI x)) (hWr.num (Wr.lo (by omega))) ?_
  refine v_istore_2 G (decAt dd_RC_step 20 rfl) (by decide) rfl ?_
  refine v_iload_n G (decAt dd_RC_step 21 rfl) rfl ?_
  refine v_ldc G (decAt dd_RC_step 22 rfl) tm_637 ?_
  refine v_iand G (decAt dd_RC_step 23 rfl) ?_
  refine v_ri (y := 0) (hWr.and (K := 1) (by decide) (by decide) (by decide)) ?_
  refine v_if_eq G 45 (decAt dd_RC_step 24 rfl) (by decide) (fun _ => ?_) (fun c38 => absurd c38 (by decide))
  refine v_iconst G 0 (decAt dd_RC_step 27 rfl) (by decide) ?_
  refine v_istore_3 G (decAt dd_RC_step 28 rfl) (by decide) rfl ?_
  refine v_iload_n G (decAt dd_RC_step 29 rfl) rfl ?_
  refine v_ldc G (decAt dd_RC_step 30 rfl) tm_638 ?_
  refine v_iand G (decAt dd_RC_step 31 rfl) ?_
  refine v_ri (y := 0) (hWr.and (K := 2) (by decide) (by decide) (by decide)) ?_
  refine v_if_eq G 57 (decAt dd_RC_step 32 rfl) (by decide) (fun _ => ?_) (fun c51 => absurd c51 (by decide))
  refine v_iload_n G (decAt dd_RC_step 34 rfl) rfl ?_
  refine v_bipush G 28 (decAt dd_RC_step 35 rfl) (by decide) ?_
  refine v_iushr G (decAt dd_RC_step 36 rfl) ?_
  refine v_ri (y := 7) (hWr.opc rfl) ?_
  refine v_tswOut G 234 (decAt dd_RC_step 37 rfl) (by decide) (by decide) ?_
  refine v_aload_n G (decAt dd_RC_step 109 rfl) rfl ?_
  refine v_iload_n G (decAt dd_RC_step 110 rfl) rfl ?_
  refine v_callVv G (As := [.int (nI x)]) (rm := ({ frames := 3, cells := 0, slots := 0, locals := 66 } : Room)) (decAt dd_RC_step 111 rfl) k_RC_170 M (by decide) rfl rfl rfl (Nat.le_of_ble_eq_true rfl) (by decide) (by decide) ?_
  intro ρ9 g9 A9 n9 tx9 hP
  exact v_vret G (decAt dd_RC_step 112 rfl) rfl ⟨rfl, hP⟩
set_option maxHeartbeats 4000000 in
theorem c_RC_step_t (l : Launch) {E : Bs} (hE : Hb E) {ρ : Nat → Nat} {g A : Nat → Nat → Int32} {n : Nat → Nat} {tx : Value} {pp : Nat} {a b : Int32} (hc : g 0 20 = nI (65536 + pp)) (hp : pp < 4096) (h26 : n 26 = 4096) (ha : g 0 18 = a) (hb : g 0 19 = b)  {x : Nat} {PP : PostT} {Th : Addr → Heap → Prop} (hw : A 26 pp = finW (9, nI x)) (hx : x < 100) (M : CTh l E DC AC Th y_RC_does b_RC_does 4 none ({ frames := 8, cells := 1, slots := 7, locals := 134 } : Room) [.ref (E.o 0), .int (nI x)] ρ (up2 g 0 20 (nI (65536 + (pp + 1)))) A n tx PP) : CTh l E DC AC Th y_RC_step b_RC_step 4 none ({ frames := 9, cells := 1, slots := 7, locals := 157 } : Room) [.ref (E.o 0)] ρ g A n tx PP := by
  refine CTh.start [some (.ref (E.o 0)), none, none, none] hE (by decide) (Nat.le_of_ble_eq_true rfl) rfl tm_636 ?_
  intro p e s m args below meth c G hne
  have hWr := fin_lo (i := 9) (q := x) (by decide) (by decide) rfl (by omega)
  refine v_aload_n G (decAt dd_RC_step 0 rfl) rfl ?_
  refine v_geto G (decAt dd_RC_step 1 rfl) f_RC_44 ?_
  refine v_geta G (decAt dd_RC_step 2 rfl) f_RC_154 ?_
  refine v_aload_n G (decAt dd_RC_step 3 rfl) rfl ?_
  refine v_geti G (decAt dd_RC_step 4 rfl) f_RC_157 ?_
  refine v_ri (y := (nI (65536 + pp))) hc ?_
  refine v_ldc G (decAt dd_RC_step 5 rfl) tm_632 ?_
  refine v_isub G (decAt dd_RC_step 6 rfl) ?_
  refine v_ri (y := (nI pp)) (by rw [Nat.add_comm]; exact nI_sub pp 65536) ?_
  refine v_iald G 26 pp (decAt dd_RC_step 7 rfl) (by decide) rfl rfl (by omega) ?_
  refine v_ri (y := (finW (9, nI x))) hw ?_
  refine v_istore_1 G (decAt dd_RC_step 8 rfl) (by decide) rfl ?_
  refine v_aload_n G (decAt dd_RC_step 9 rfl) rfl ?_
  refine v_dup G (decAt dd_RC_step 10 rfl) rfl ?_
  refine v_geti G (decAt dd_RC_step 11 rfl) f_RC_157 ?_
  refine v_ri (y := (nI (65536 + pp))) hc ?_
  refine v_iconst G 1 (decAt dd_RC_step 12 rfl) (by decide) ?_
  refine v_iadd G (decAt dd_RC_step 13 rfl) ?_
  refine v_ri (y := (nI (65536 + (pp + 1)))) (nI_1 _) ?_
  refine v_puti G (decAt dd_RC_step 14 rfl) f_RC_157 rfl rfl rfl ?_
  refine v_iload_n G (decAt dd_RC_step 15 rfl) rfl ?_
  refine v_bipush G 7 (decAt dd_RC_step 16 rfl) (by decide) ?_
  refine v_ishl G (decAt dd_RC_step 17 rfl) ?_
  refine v_bipush G 7 (decAt dd_RC_step 18 rfl) (by decide) ?_
  refine v_ishr G (decAt dd_RC_step 19 rfl) ?_
  refine v_ri (y := (nI x)) (hWr.num (Wr.lo (by omega))) ?_
  refine v_istore_2 G (decAt dd_RC_step 20 rfl) (by decide) rfl ?_
  refine v_iload_n G (decAt dd_RC_step 21 rfl) rfl ?_
  refine v_ldc G (decAt dd_RC_step 22 rfl) tm_637 ?_
  refine v_iand G (decAt dd_RC_step 23 rfl) ?_
  refine v_ri (y := 0) (hWr.and (K := 1) (by decide) (by decide) (by decide)) ?_
  refine v_if_eq G 45 (decAt dd_RC_step 24 rfl) (by decide) (fun _ => ?_) (fun c38 => absurd c38 (by decide))
  refine v_iconst G 0 (decAt dd_RC_step 27 rfl) (by decide) ?_
  refine v_istore_3 G (decAt dd_RC_step 28 rfl) (by decide) rfl ?_
  refine v_iload_n G (decAt dd_RC_step 29 rfl) rfl ?_
  refine v_ldc G (decAt dd_RC_step 30 rfl) tm_638 ?_
  refine v_iand G (decAt dd_RC_step 31 rfl) ?_
  refine v_ri (y := 0) (hWr.and (K := 2) (by decide) (by decide) (by decide)) ?_
  refine v_if_eq G 57 (decAt dd_RC_step 32 rfl) (by decide) (fun _ => ?_) (fun c51 => absurd c51 (by decide))
  refine v_iload_n G (decAt dd_RC_step 34 rfl) rfl ?_
  refine v_bipush G 28 (decAt dd_RC_step 35 rfl) (by decide) ?_
  refine v_iushr G (decAt dd_RC_step 36 rfl) ?_
  refine v_ri (y := 7) (hWr.opc rfl) ?_
  refine v_tswOut G 234 (decAt dd_RC_step 37 rfl) (by decide) (by decide) ?_
  refine v_aload_n G (decAt dd_RC_step 109 rfl) rfl ?_
  refine v_iload_n G (decAt dd_RC_step 110 rfl) rfl ?_
  exact v_throwV G hne (As := [.int (nI x)]) (decAt dd_RC_step 111 rfl) k_RC_170 M (by decide) rfl rfl rfl (Nat.le_of_ble_eq_true rfl) (by decide) (by decide) (by decide) (by decide) (fun _ _ _ _ _ hq => hq)
