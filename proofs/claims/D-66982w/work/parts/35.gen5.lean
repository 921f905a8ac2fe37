/-! Generator: one -/
set_option maxHeartbeats 4000000 in
theorem c_GN_one (l : Launch) {E : Bs} (hE : Hb E) {ρ : Nat → Nat} {g A : Nat → Nat → Int32} {n : Nat → Nat} {tx : Value} {q : GS} (hI : GnI q g A n) {N dl : Nat} {a fo : Int32} (hN : N ≤ 20) (htk : ¬ (10 ≤ N ∧ N ≤ 13) → tI N ≤ (q.d : Int)) (hgr : N ≤ 1 → q.d < 60) (hd1 : N = 11 ∨ N = 12 → q.sa = false → 1 ≤ q.d) (hmo : q.mo ≤ 60) (hla : N = 13 → dl ≤ 60 ∧ ∃ y : Nat, a = nI y ∧ y < n 19 ∧ A 19 y = nI (dl + 1)) (hB : Fit (gone N a fo dl q)) : CW l E DC AC y_GN_one b_GN_one 4 none ({ frames := 11, cells := 64, slots := 4096, locals := 238 } : Room) [.ref (E.o 3), .int (stv 2 N), .int a, .int fo] ρ g A n tx (fun r ρ' g' A' n' tx' => r = none ∧ GnI (gone N a fo dl q) g' A' n' ∧ GnF g A n g' A' n' ∧ tx' = tx) := by
  refine CW.start [some (.ref (E.o 3)), some (.int (stv 2 N)), some (.int a), some (.int fo)] hE (by decide) (Nat.le_of_ble_eq_true rfl) rfl ?_
  intro p e s m args below meth c G
  have hd := hI.dle
  rcases (show N = 0 ∨ N = 1 ∨ N = 2 ∨ N = 3 ∨ N = 4 ∨ N = 5 ∨ N = 6 ∨ N = 7 ∨ N = 8 ∨ N = 9 ∨ N = 10 ∨ N = 11 ∨ N = 12 ∨ N = 13 ∨ N = 14 ∨ N = 15 ∨ N = 16 ∨ N = 17 ∨ N = 18 ∨ N = 19 ∨ N = 20 by omega) with rfl | rfl | rfl | rfl | rfl | rfl | rfl | rfl | rfl | rfl | rfl | rfl | rfl | rfl | rfl | rfl | rfl | rfl | rfl | rfl | rfl
  · skip
    refine v_L (L' := [some (.ref (E.o 3)), some (.int (nI 0)), some (.int a), some (.int fo)]) (fun _ _ z => z) ?_
    refine v_iload_n G (decAt dd_GN_one 0 rfl) rfl ?_
    refine v_tswIn G 116 (decAt dd_GN_one 1 rfl) (by decide) (by decide) rfl (by decide) ?_
    refine v_aload_n G (decAt dd_GN_one 2 rfl) rfl ?_
    refine v_iconst G 0 (decAt dd_GN_one 3 rfl) (by decide) ?_
    refine v_iload_n G (decAt dd_GN_one 4 rfl) rfl ?_
    refine v_callVv G (As := [.int (nI 0), .int a]) (P := fun ρ' g' A' n' tx' => GnI (gpush (0, a) q) g' A' n' ∧ GnF g A n g' A' n' ∧ tx' = tx) (rm := ({ frames := 9, cells := 1, slots := 64, locals := 194 } : Room)) (decAt dd_GN_one 5 rfl) k_GN_158 (c_GN_push l hE hI (K := 0) (v := a) (by decide) (hgr (by decide)) hmo hB) (by decide) rfl rfl rfl (Nat.le_of_ble_eq_true rfl) (by decide) (by decide) ?_
    rintro ρ401 g401 A401 n401 tx401 ⟨hI401, hX401, etx⟩
    replace etx := etx.symm; subst etx
    have hF401 := GnF.trans (GnF.rf g A n) hX401
    refine v_goto G 376 (decAt dd_GN_one 6 rfl) (by decide) ?_
    refine v_room 64 4096 (by decide) (by decide) ?_
    exact v_vret G (decAt dd_GN_one 141 rfl) rfl ⟨rfl, hI401, hF401, rfl⟩
  · skip
    refine v_L (L' := [some (.ref (E.o 3)), some (.int (nI 1)), some (.int a), some (.int fo)]) (fun _ _ z => z) ?_
    refine v_iload_n G (decAt dd_GN_one 0 rfl) rfl ?_
    refine v_tswIn G 125 (decAt dd_GN_one 1 rfl) (by decide) (by decide) rfl (by decide) ?_
    refine v_aload_n G (decAt dd_GN_one 7 rfl) rfl ?_
    refine v_iconst G 1 (decAt dd_GN_one 8 rfl) (by decide) ?_
    refine v_iload_n G (decAt dd_GN_one 9 rfl) rfl ?_
    refine v_callVv G (As := [.int (nI 1), .int a]) (P := fun ρ' g' A' n' tx' => GnI (gpush (1, a) q) g' A' n' ∧ GnF g A n g' A' n' ∧ tx' = tx) (rm := ({ frames := 9, cells := 1, slots := 64, locals := 194 } : Room)) (decAt dd_GN_one 10 rfl) k_GN_158 (c_GN_push l hE hI (K := 1) (v := a) (by decide) (hgr (by decide)) hmo hB) (by decide) rfl rfl rfl (Nat.le_of_ble_eq_true rfl) (by decide) (by decide) ?_
    rintro ρ402 g402 A402 n402 tx402 ⟨hI402, hX402, etx⟩
    replace etx := etx.symm; subst etx
    have hF402 := GnF.trans (GnF.rf g A n) hX402
    refine v_goto G 376 (decAt dd_GN_one 11 rfl) (by decide) ?_
    refine v_room 64 4096 (by decide) (by decide) ?_
    exact v_vret G (decAt dd_GN_one 141 rfl) rfl ⟨rfl, hI402, hF402, rfl⟩
  · skip
    have ht : 1 ≤ q.d := by have h := htk (by decide); have h : (1 : Int) ≤ (q.d : Int) := h; omega
    refine v_L (L' := [some (.ref (E.o 3)), some (.int (nI 3)), some (.int a), some (.int fo)]) (fun _ _ z => z) ?_
    refine v_iload_n G (decAt dd_GN_one 0 rfl) rfl ?_
    refine v_tswIn G 152 (decAt dd_GN_one 1 rfl) (by decide) (by decide) rfl (by decide) ?_
    refine v_aload_n G (decAt dd_GN_one 22 rfl) rfl ?_
    refine v_iload_n G (decAt dd_GN_one 23 rfl) rfl ?_
    refine v_iload_n G (decAt dd_GN_one 24 rfl) rfl ?_
    refine v_callVv G (As := [.int 3, .int a]) (P := fun ρ' g' A' n' tx' => GnI (gstores a q) g' A' n' ∧ GnF g A n g' A' n' ∧ tx' = tx) (rm := ({ frames := 10, cells := 62, slots := 3968, locals := 215 } : Room)) (decAt dd_GN_one 25 rfl) k_GN_161 (c_GN_stores l hE hI (x := a) ht hB) (by decide) rfl rfl rfl (Nat.le_of_ble_eq_true rfl) (by decide) (by decide) ?_
    rintro ρ403 g403 A403 n403 tx403 ⟨hI403, hX403, etx⟩
    replace etx := etx.symm; subst etx
    have hF403 := GnF.trans (GnF.rf g A n) hX403
    refine v_goto G 376 (decAt dd_GN_one 26 rfl) (by decide) ?_
    refine v_room 64 4096 (by decide) (by decide) ?_
    exact v_vret G (decAt dd_GN_one 141 rfl) rfl ⟨rfl, hI403, hF403, rfl⟩
  · skip
    have ht : 1 ≤ q.d := by have h := htk (by decide); have h : (1 : Int) ≤ (q.d : Int) := h; omega
    refine v_L (L' := [some (.ref (E.o 3)), some (.int (nI 5)), some (.int a), some (.int fo)]) (fun _ _ z => z) ?_
    refine v_iload_n G (decAt dd_GN_one 0 rfl) rfl ?_
    refine v_tswIn G 161 (decAt dd_GN_one 1 rfl) (by decide) (by decide) rfl (by decide) ?_
    refine v_aload_n G (decAt dd_GN_one 27 rfl) rfl ?_
    refine v_iconst G 1 (decAt dd_GN_one 28 rfl) (by decide) ?_
    refine v_callVv G (As := [.int 1]) (P := fun ρ' g' A' n' tx' => GnI (gsingle 1 q) g' A' n' ∧ GnF g A n g' A' n' ∧ tx' = tx) (rm := ({ frames := 8, cells := 1, slots := 64, locals := 173 } : Room)) (decAt dd_GN_one 29 rfl) k_GN_164 (c_GN_single l hE hI (x := 1) ht hB) (by decide) rfl rfl rfl (Nat.le_of_ble_eq_true rfl) (by decide) (by decide) ?_
    rintro ρ404 g404 A404 n404 tx404 ⟨hI404, hX404, etx⟩
    replace etx := etx.symm; subst etx
    have hF404 := GnF.trans (GnF.rf g A n) hX404
    refine v_goto G 376 (decAt dd_GN_one 30 rfl) (by decide) ?_
    refine v_room 64 4096 (by decide) (by decide) ?_
    exact v_vret G (decAt dd_GN_one 141 rfl) rfl ⟨rfl, hI404, hF404, rfl⟩
  · skip
    have ht : 2 ≤ q.d := by have h := htk (by decide); have h : (2 : Int) ≤ (q.d : Int) := h; omega
    refine v_L (L' := [some (.ref (E.o 3)), some (.int (nI 6)), some (.int a), some (.int fo)]) (fun _ _ z => z) ?_
    refine v_iload_n G (decAt dd_GN_one 0 rfl) rfl ?_
    refine v_tswIn G 185 (decAt dd_GN_one 1 rfl) (by decide) (by decide) rfl (by decide) ?_
    refine v_aload_n G (decAt dd_GN_one 39 rfl) rfl ?_
    refine v_callVv G (As := []) (P := fun ρ' g' A' n' tx' => GnI (gindirect q) g' A' n' ∧ GnF g A n g' A' n' ∧ tx' = tx) (rm := ({ frames := 10, cells := 64, slots := 4096, locals := 215 } : Room)) (decAt dd_GN_one 40 rfl) k_GN_167 (c_GN_indirect l hE hI ht hB) (by decide) rfl rfl rfl (Nat.le_of_ble_eq_true rfl) (by decide) (by decide) ?_
    rintro ρ405 g405 A405 n405 tx405 ⟨hI405, hX405, etx⟩
    replace etx := etx.symm; subst etx
    have hF405 := GnF.trans (GnF.rf g A n) hX405
    refine v_goto G 376 (decAt dd_GN_one 41 rfl) (by decide) ?_
    refine v_room 64 4096 (by decide) (by decide) ?_
    exact v_vret G (decAt dd_GN_one 141 rfl) rfl ⟨rfl, hI405, hF405, rfl⟩
  · skip
    have ht : 1 ≤ q.d := by have h := htk (by decide); have h : (1 : Int) ≤ (q.d : Int) := h; omega
    refine v_L (L' := [some (.ref (E.o 3)), some (.int (nI 8)), some (.int a), some (.int fo)]) (fun _ _ z => z) ?_
    refine v_iload_n G (decAt dd_GN_one 0 rfl) rfl ?_
    refine v_tswIn G 169 (decAt dd_GN_one 1 rfl) (by decide) (by decide) rfl (by decide) ?_
    refine v_aload_n G (decAt dd_GN_one 31 rfl) rfl ?_
    refine v_iconst G 2 (decAt dd_GN_one 32 rfl) (by decide) ?_
    refine v_callVv G (As := [.int 2]) (P := fun ρ' g' A' n' tx' => GnI (gsingle 2 q) g' A' n' ∧ GnF g A n g' A' n' ∧ tx' = tx) (rm := ({ frames := 8, cells := 1, slots := 64, locals := 173 } : Room)) (decAt dd_GN_one 33 rfl) k_GN_164 (c_GN_single l hE hI (x := 2) ht hB) (by decide) rfl rfl rfl (Nat.le_of_ble_eq_true rfl) (by decide) (by decide) ?_
    rintro ρ406 g406 A406 n406 tx406 ⟨hI406, hX406, etx⟩
    replace etx := etx.symm; subst etx
    have hF406 := GnF.trans (GnF.rf g A n) hX406
    refine v_goto G 376 (decAt dd_GN_one 34 rfl) (by decide) ?_
    refine v_room 64 4096 (by decide) (by decide) ?_
    exact v_vret G (decAt dd_GN_one 141 rfl) rfl ⟨rfl, hI406, hF406, rfl⟩
  · skip
    have ht : 1 ≤ q.d := by have h := htk (by decide); have h : (1 : Int) ≤ (q.d : Int) := h; omega
    refine v_L (L' := [some (.ref (E.o 3)), some (.int (nI 9)), some (.int a), some (.int fo)]) (fun _ _ z => z) ?_
    refine v_iload_n G (decAt dd_GN_one 0 rfl) rfl ?_
    refine v_tswIn G 177 (decAt dd_GN_one 1 rfl) (by decide) (by decide) rfl (by decide) ?_
    refine v_aload_n G (decAt dd_GN_one 35 rfl) rfl ?_
    refine v_iconst G 3 (decAt dd_GN_one 36 rfl) (by decide) ?_
    refine v_callVv G (As := [.int 3]) (P := fun ρ' g' A' n' tx' => GnI (gsingle 3 q) g' A' n' ∧ GnF g A n g' A' n' ∧ tx' = tx) (rm := ({ frames := 8, cells := 1, slots := 64, locals := 173 } : Room)) (decAt dd_GN_one 37 rfl) k_GN_164 (c_GN_single l hE hI (x := 3) ht hB) (by decide) rfl rfl rfl (Nat.le_of_ble_eq_true rfl) (by decide) (by decide) ?_
    rintro ρ407 g407 A407 n407 tx407 ⟨hI407, hX407, etx⟩
    replace etx := etx.symm; subst etx
    have hF407 := GnF.trans (GnF.rf g A n) hX407
    refine v_goto G 376 (decAt dd_GN_one 38 rfl) (by decide) ?_
    refine v_room 64 4096 (by decide) (by decide) ?_
    exact v_vret G (decAt dd_GN_one 141 rfl) rfl ⟨rfl, hI407, hF407, rfl⟩
  · skip
    have ht : 2 ≤ q.d := by have h := htk (by decide); have h : (2 : Int) ≤ (q.d : Int) := h; omega
    refine v_L (L' := [some (.ref (E.o 3)), some (.int (nI 10)), some (.int a), some (.int fo)]) (fun _ _ z => z) ?_
    refine v_iload_n G (decAt dd_GN_one 0 rfl) rfl ?_
    refine v_tswIn G 192 (decAt dd_GN_one 1 rfl) (by decide) (by decide) rfl (by decide) ?_
    refine v_aload_n G (decAt dd_GN_one 42 rfl) rfl ?_
    refine v_bipush G 20 (decAt dd_GN_one 43 rfl) (by decide) ?_
    refine v_iload_n G (decAt dd_GN_one 44 rfl) rfl ?_
    refine v_iadd G (decAt dd_GN_one 45 rfl) ?_
    refine v_callVv G (As := [.int (20 + a)]) (P := fun ρ' g' A' n' tx' => GnI (gpair (20 + a) q) g' A' n' ∧ GnF g A n g' A' n' ∧ tx' = tx) (rm := ({ frames := 10, cells := 3, slots := 192, locals := 214 } : Room)) (decAt dd_GN_one 46 rfl) k_GN_170 (c_GN_pair l hE hI (x := (20 + a)) ht hB) (by decide) rfl rfl rfl (Nat.le_of_ble_eq_true rfl) (by decide) (by decide) ?_
    rintro ρ408 g408 A408 n408 tx408 ⟨hI408, hX408, etx⟩
    replace etx := etx.symm; subst etx
    have hF408 := GnF.trans (GnF.rf g A n) hX408
    refine v_goto G 376 (decAt dd_GN_one 47 rfl) (by decide) ?_
    refine v_room 64 4096 (by decide) (by decide) ?_
    exact v_vret G (decAt dd_GN_one 141 rfl) rfl ⟨rfl, hI408, hF408, rfl⟩
  · skip
    have ht : 2 ≤ q.d := by have h := htk (by decide); have h : (2 : Int) ≤ (q.d : Int) := h; omega
    refine v_L (L' := [some (.ref (E.o 3)), some (.int (nI 11)), some (.int a), some (.int fo)]) (fun _ _ z => z) ?_
    refine v_iload_n G (decAt dd_GN_one 0 rfl) rfl ?_
    refine v_tswIn G 203 (decAt dd_GN_one 1 rfl) (by decide) (by decide) rfl (by decide) ?_
    refine v_aload_n G (decAt dd_GN_one 48 rfl) rfl ?_
    refine v_bipush G 40 (decAt dd_GN_one 49 rfl) (by decide) ?_
    refine v_iload_n G (decAt dd_GN_one 50 rfl) rfl ?_
    refine v_iadd G (decAt dd_GN_one 51 rfl) ?_
    refine v_callVv G (As := [.int (40 + a)]) (P := fun ρ' g' A' n' tx' => GnI (gpair (40 + a) q) g' A' n' ∧ GnF g A n g' A' n' ∧ tx' = tx) (rm := ({ frames := 10, cells := 3, slots := 192, locals := 214 } : Room)) (decAt dd_GN_one 52 rfl) k_GN_170 (c_GN_pair l hE hI (x := (40 + a)) ht hB) (by decide) rfl rfl rfl (Nat.le_of_ble_eq_true rfl) (by decide) (by decide) ?_
    rintro ρ409 g409 A409 n409 tx409 ⟨hI409, hX409, etx⟩
    replace etx := etx.symm; subst etx
    have hF409 := GnF.trans (GnF.rf g A n) hX409
    refine v_goto G 376 (decAt dd_GN_one 53 rfl) (by decide) ?_
    refine v_room 64 4096 (by decide) (by decide) ?_
    exact v_vret G (decAt dd_GN_one 141 rfl) rfl ⟨rfl, hI409, hF409, rfl⟩
  · skip
    have ht : 2 ≤ q.d := by have h := htk (by decide); have h : (2 : Int) ≤ (q.d : Int) := h; omega
    refine v_L (L' := [some (.ref (E.o 3)), some (.int (nI 12)), some (.int a), some (.int fo)]) (fun _ _ z => z) ?_
    refine v_iload_n G (decAt dd_GN_one 0 rfl) rfl ?_
    refine v_tswIn G 230 (decAt dd_GN_one 1 rfl) (by decide) (by decide) rfl (by decide) ?_
    refine v_aload_n G (decAt dd_GN_one 61 rfl) rfl ?_
    refine v_iload_n G (decAt dd_GN_one 62 rfl) rfl ?_
    refine v_callVv G (As := [.int a]) (P := fun ρ' g' A' n' tx' => GnI (gchain a q) g' A' n' ∧ GnF g A n g' A' n' ∧ tx' = tx) (rm := ({ frames := 10, cells := 3, slots := 192, locals := 214 } : Room)) (decAt dd_GN_one 63 rfl) k_GN_176 (c_GN_chain l hE hI (x := a) ht hB) (by decide) rfl rfl rfl (Nat.le_of_ble_eq_true rfl) (by decide) (by decide) ?_
    rintro ρ410 g410 A410 n410 tx410 ⟨hI410, hX410, etx⟩
    replace etx := etx.symm; subst etx
    have hF410 := GnF.trans (GnF.rf g A n) hX410
    refine v_goto G 376 (decAt dd_GN_one 64 rfl) (by decide) ?_
    refine v_room 64 4096 (by decide) (by decide) ?_
    exact v_vret G (decAt dd_GN_one 141 rfl) rfl ⟨rfl, hI410, hF410, rfl⟩
  · skip
    refine v_L (L' := [some (.ref (E.o 3)), some (.int (nI 13)), some (.int a), some (.int fo)]) (fun _ _ z => z) ?_
    refine v_iload_n G (decAt dd_GN_one 0 rfl) rfl ?_
    refine v_tswIn G 370 (decAt dd_GN_one 1 rfl) (by decide) (by decide) rfl (by decide) ?_
    refine v_aload_n G (decAt dd_GN_one 137 rfl) rfl ?_
    refine v_iload_n G (decAt dd_GN_one 138 rfl) rfl ?_
    refine v_iload_n G (decAt dd_GN_one 139 rfl) rfl ?_
    refine v_callVv G (As := [.int (nI 13), .int a]) (P := fun ρ' g' A' n' tx' => GnI (ggoes 10 a dl q) g' A' n' ∧ GnF g A n g' A' n' ∧ tx' = tx) (rm := ({ frames := 10, cells := 62, slots := 3968, locals := 215 } : Room)) (decAt dd_GN_one 140 rfl) k_GN_192 (c_GN_goes l hE hI (N := 10) (dl := dl) (a := a) (by decide) hd1 hmo hla hB) (by decide) rfl rfl rfl (Nat.le_of_ble_eq_true rfl) (by decide) (by decide) ?_
    rintro ρ411 g411 A411 n411 tx411 ⟨hI411, hX411, etx⟩
    replace etx := etx.symm; subst etx
    have hF411 := GnF.trans (GnF.rf g A n) hX411
    refine v_room 64 4096 (by decide) (by decide) ?_
    exact v_vret G (decAt dd_GN_one 141 rfl) rfl ⟨rfl, hI411, hF411, rfl⟩
  · skip
    refine v_L (L' := [some (.ref (E.o 3)), some (.int (nI 14)), some (.int a), some (.int fo)]) (fun _ _ z => z) ?_
    refine v_iload_n G (decAt dd_GN_one 0 rfl) rfl ?_
    refine v_tswIn G 370 (decAt dd_GN_one 1 rfl) (by decide) (by decide) rfl (by decide) ?_
    refine v_aload_n G (decAt dd_GN_one 137 rfl) rfl ?_
    refine v_iload_n G (decAt dd_GN_one 138 rfl) rfl ?_
    refine v_iload_n G (decAt dd_GN_one 139 rfl) rfl ?_
    refine v_callVv G (As := [.int (nI 14), .int a]) (P := fun ρ' g' A' n' tx' => GnI (ggoes 11 a dl q) g' A' n' ∧ GnF g A n g' A' n' ∧ tx' = tx) (rm := ({ frames := 10, cells := 62, slots := 3968, locals := 215 } : Room)) (decAt dd_GN_one 140 rfl) k_GN_192 (c_GN_goes l hE hI (N := 11) (dl := dl) (a := a) (by decide) hd1 hmo hla hB) (by decide) rfl rfl rfl (Nat.le_of_ble_eq_true rfl) (by decide) (by decide) ?_
    rintro ρ412 g412 A412 n412 tx412 ⟨hI412, hX412, etx⟩
    replace etx := etx.symm; subst etx
    have hF412 := GnF.trans (GnF.rf g A n) hX412
    refine v_room 64 4096 (by decide) (by decide) ?_
    exact v_vret G (decAt dd_GN_one 141 rfl) rfl ⟨rfl, hI412, hF412, rfl⟩
  · skip
    refine v_L (L' := [some (.ref (E.o 3)), some (.int (nI 15)), some (.int a), some (.int fo)]) (fun _ _ z => z) ?_
    refine v_iload_n G (decAt dd_GN_one 0 rfl) rfl ?_
    refine v_tswIn G 370 (decAt dd_GN_one 1 rfl) (by decide) (by decide) rfl (by decide) ?_
    refine v_aload_n G (decAt dd_GN_one 137 rfl) rfl ?_
    refine v_iload_n G (decAt dd_GN_one 138 rfl) rfl ?_
    refine v_iload_n G (decAt dd_GN_one 139 rfl) rfl ?_
    refine v_callVv G (As := [.int (nI 15), .int a]) (P := fun ρ' g' A' n' tx' => GnI (ggoes 12 a dl q) g' A' n' ∧ GnF g A n g' A' n' ∧ tx' = tx) (rm := ({ frames := 10, cells := 62, slots := 3968, locals := 215 } : Room)) (decAt dd_GN_one 140 rfl) k_GN_192 (c_GN_goes l hE hI (N := 12) (dl := dl) (a := a) (by decide) hd1 hmo hla hB) (by decide) rfl rfl rfl (Nat.le_of_ble_eq_true rfl) (by decide) (by decide) ?_
    rintro ρ413 g413 A413 n413 tx413 ⟨hI413, hX413, etx⟩
    replace etx := etx.symm; subst etx
    have hF413 := GnF.trans (GnF.rf g A n) hX413
    refine v_room 64 4096 (by decide) (by decide) ?_
    exact v_vret G (decAt dd_GN_one 141 rfl) rfl ⟨rfl, hI413, hF413, rfl⟩
  · skip
    refine v_L (L' := [some (.ref (E.o 3)), some (.int (nI 22)), some (.int a), some (.int fo)]) (fun _ _ z => z) ?_
    refine v_iload_n G (decAt dd_GN_one 0 rfl) rfl ?_
    refine v_tswIn G 370 (decAt dd_GN_one 1 rfl) (by decide) (by decide) rfl (by decide) ?_
    refine v_aload_n G (decAt dd_GN_one 137 rfl) rfl ?_
    refine v_iload_n G (decAt dd_GN_one 138 rfl) rfl ?_
    refine v_iload_n G (decAt dd_GN_one 139 rfl) rfl ?_
    refine v_callVv G (As := [.int (nI 22), .int a]) (P := fun ρ' g' A' n' tx' => GnI (ggoes 13 a dl q) g' A' n' ∧ GnF g A n g' A' n' ∧ tx' = tx) (rm := ({ frames := 10, cells := 62, slots := 3968, locals := 215 } : Room)) (decAt dd_GN_one 140 rfl) k_GN_192 (c_GN_goes l hE hI (N := 13) (dl := dl) (a := a) (by decide) hd1 hmo hla hB) (by decide) rfl rfl rfl (Nat.le_of_ble_eq_true rfl) (by decide) (by decide) ?_
    rintro ρ414 g414 A414 n414 tx414 ⟨hI414, hX414, etx⟩
    replace etx := etx.symm; subst etx
    have hF414 := GnF.trans (GnF.rf g A n) hX414
    refine v_room 64 4096 (by decide) (by decide) ?_
    exact v_vret G (decAt dd_GN_one 141 rfl) rfl ⟨rfl, hI414, hF414, rfl⟩
  · skip
    have ht : 1 ≤ q.d := by have h := htk (by decide); have h : (1 : Int) ≤ (q.d : Int) := h; omega
    refine v_L (L' := [some (.ref (E.o 3)), some (.int (nI 19)), some (.int a), some (.int fo)]) (fun _ _ z => z) ?_
    refine v_iload_n G (decAt dd_GN_one 0 rfl) rfl ?_
    refine v_tswIn G 249 (decAt dd_GN_one 1 rfl) (by decide) (by decide) rfl (by decide) ?_
    refine v_aload_n G (decAt dd_GN_one 70 rfl) rfl ?_
    refine v_dup G (decAt dd_GN_one 71 rfl) rfl ?_
    refine v_geti G (decAt dd_GN_one 72 rfl) f_GN_44 ?_
    refine v_ri (y := (nI q.d)) hI.dep ?_
    refine v_iconst G 1 (decAt dd_GN_one 73 rfl) (by decide) ?_
    refine v_isub G (decAt dd_GN_one 74 rfl) ?_
    refine v_ri (y := (nI (q.d - 1))) (nI_sb (a := q.d) (b := 1) (by omega)) ?_
    refine v_puti G (decAt dd_GN_one 75 rfl) f_GN_44 rfl rfl rfl ?_
    refine v_goto G 376 (decAt dd_GN_one 76 rfl) (by decide) ?_
    refine v_room 64 4096 (by decide) (by decide) ?_
    exact v_vret G (decAt dd_GN_one 141 rfl) rfl ⟨rfl, (hI.depth (d := q.d - 1) (by omega)), ((GnF.rf g A n).pg (by decide)), rfl⟩
  · skip
    refine v_L (L' := [some (.ref (E.o 3)), some (.int (nI 18)), some (.int a), some (.int fo)]) (fun _ _ z => z) ?_
    refine v_iload_n G (decAt dd_GN_one 0 rfl) rfl ?_
    refine v_tswIn G 238 (decAt dd_GN_one 1 rfl) (by decide) (by decide) rfl (by decide) ?_
    refine v_aload_n G (decAt dd_GN_one 65 rfl) rfl ?_
    refine q_ldcs G (i := 9) (decAt dd_GN_one 66 rfl) rfl rfl rfl ?_
    refine v_bipush G 9 (decAt dd_GN_one 67 rfl) (by decide) ?_
    refine v_callVv G (As := [.ref (E.st (10 + 9)), .int 9]) (P := fun ρ' g' A' n' tx' => GnI (gline 9 9 (q)) g' A' n' ∧ GnF g A n g' A' n' ∧ tx' = tx) (rm := ({ frames := 5, cells := 0, slots := 0, locals := 107 } : Room)) (decAt dd_GN_one 68 rfl) k_GN_84 (c_GN_lineG l hE hI (i := 9) (v := 9) (by decide) hB) (by decide) rfl rfl rfl (Nat.le_of_ble_eq_true rfl) (by decide) (by decide) ?_
    rintro ρ415 g415 A415 n415 tx415 ⟨hI415, hX415, etx⟩
    replace etx := etx.symm; subst etx
    have hF415 := GnF.trans (GnF.rf g A n) hX415
    refine v_goto G 376 (decAt dd_GN_one 69 rfl) (by decide) ?_
    refine v_room 64 4096 (by decide) (by decide) ?_
    exact v_vret G (decAt dd_GN_one 141 rfl) rfl ⟨rfl, hI415, hF415, rfl⟩
  · skip
    have ht : 1 ≤ q.d := by have h := htk (by decide); have h : (1 : Int) ≤ (q.d : Int) := h; omega
    refine v_L (L' := [some (.ref (E.o 3)), some (.int (nI 17)), some (.int a), some (.int fo)]) (fun _ _ z => z) ?_
    have hB1 : Fit (gline 9 4 (gload (q.d - 1) q)) := hB
    have hB2 := hB1.of (QLe.line _ _ _)
    refine v_iload_n G (decAt dd_GN_one 0 rfl) rfl ?_
    refine v_tswIn G 277 (decAt dd_GN_one 1 rfl) (by decide) (by decide) rfl (by decide) ?_
    refine v_aload_n G (decAt dd_GN_one 86 rfl) rfl ?_
    refine v_aload_n G (decAt dd_GN_one 87 rfl) rfl ?_
    refine v_geti G (decAt dd_GN_one 88 rfl) f_GN_44 ?_
    refine v_ri (y := (nI q.d)) hI.dep ?_
    refine v_iconst G 1 (decAt dd_GN_one 89 rfl) (by decide) ?_
    refine v_isub G (decAt dd_GN_one 90 rfl) ?_
    refine v_ri (y := (nI (q.d - 1))) (nI_sb (a := q.d) (b := 1) (by omega)) ?_
    refine v_callVv G (As := [.int (nI (q.d - 1))]) (P := fun ρ' g' A' n' tx' => GnI (gload (q.d - 1) (q)) g' A' n' ∧ GnF g A n g' A' n' ∧ tx' = tx) (rm := ({ frames := 7, cells := 1, slots := 64, locals := 152 } : Room)) (decAt dd_GN_one 91 rfl) k_GN_107 (c_GN_load l hE hI (k := q.d - 1) (by first | omega | (simp only [gline_d, gload_d, gkeep_d, gkeepN_d, gtop_d, gbth_d, gboth_d, gkeepBelow_d, gkeep2_d, gkeep2N_d, gkeepAll_d, gset_d]; omega)) hB2) (by decide) rfl rfl rfl (Nat.le_of_ble_eq_true rfl) (by decide) (by decide) ?_
    rintro ρ416 g416 A416 n416 tx416 ⟨hI416, hX416, etx⟩
    replace etx := etx.symm; subst etx
    have hF416 := GnF.trans (GnF.rf g A n) hX416
    refine v_aload_n G (decAt dd_GN_one 92 rfl) rfl ?_
    refine q_ldcs G (i := 9) (decAt dd_GN_one 93 rfl) rfl rfl rfl ?_
    refine v_iconst G 4 (decAt dd_GN_one 94 rfl) (by decide) ?_
    refine v_callVv G (As := [.ref (E.st (10 + 9)), .int 4]) (P := fun ρ' g' A' n' tx' => GnI (gline 9 4 (gload (q.d - 1) (q))) g' A' n' ∧ GnF g416 A416 n416 g' A' n' ∧ tx' = tx) (rm := ({ frames := 5, cells := 0, slots := 0, locals := 107 } : Room)) (decAt dd_GN_one 95 rfl) k_GN_84 (c_GN_lineG l hE hI416 (i := 9) (v := 4) (by decide) hB1) (by decide) rfl rfl rfl (Nat.le_of_ble_eq_true rfl) (by decide) (by decide) ?_
    rintro ρ417 g417 A417 n417 tx417 ⟨hI417, hX417, etx⟩
    replace etx := etx.symm; subst etx
    have hF417 := GnF.trans hF416 hX417
    refine v_aload_n G (decAt dd_GN_one 96 rfl) rfl ?_
    refine v_dup G (decAt dd_GN_one 97 rfl) rfl ?_
    refine v_geti G (decAt dd_GN_one 98 rfl) f_GN_44 ?_
    refine v_ri (y := (nI q.d)) (hI417.dep.trans (congrArg nI (by simp only [gline_d, gload_d, gkeep_d, gkeepN_d, gtop_d, gbth_d, gboth_d, gkeepBelow_d, gkeep2_d, gkeep2N_d, gkeepAll_d, gset_d]))) ?_
    refine v_iconst G 1 (decAt dd_GN_one 99 rfl) (by decide) ?_
    refine v_isub G (decAt dd_GN_one 100 rfl) ?_
    refine v_ri (y := (nI (q.d - 1))) (nI_sb (a := q.d) (b := 1) (by omega)) ?_
    refine v_puti G (decAt dd_GN_one 101 rfl) f_GN_44 rfl rfl rfl ?_
    refine v_aload_n G (decAt dd_GN_one 102 rfl) rfl ?_
    refine v_iconst G 0 (decAt dd_GN_one 103 rfl) (by decide) ?_
    refine v_puti G (decAt dd_GN_one 104 rfl) f_GN_143 rfl rfl rfl ?_
    refine v_goto G 376 (decAt dd_GN_one 105 rfl) (by decide) ?_
    refine v_room 64 4096 (by decide) (by decide) ?_
    exact v_vret G (decAt dd_GN_one 141 rfl) rfl ⟨rfl, ((hI417.depth (d := q.d - 1) (by first | omega | (simp only [gline_d, gload_d, gkeep_d, gkeepN_d, gtop_d, gbth_d, gboth_d, gkeepBelow_d, gkeep2_d, gkeep2N_d, gkeepAll_d, gset_d]; omega))).pre false rfl), ((hF417.pg (k := 3) (f := 3) (by decide)).pg (k := 3) (f := 6) (by decide)), rfl⟩
  · skip
    refine v_L (L' := [some (.ref (E.o 3)), some (.int (nI 20)), some (.int a), some (.int fo)]) (fun _ _ z => z) ?_
    have hB1 : Fit (gline 9 10 q) := hB
    refine v_iload_n G (decAt dd_GN_one 0 rfl) rfl ?_
    refine v_tswIn G 312 (decAt dd_GN_one 1 rfl) (by decide) (by decide) rfl (by decide) ?_
    refine v_aload_n G (decAt dd_GN_one 106 rfl) rfl ?_
    refine q_ldcs G (i := 9) (decAt dd_GN_one 107 rfl) rfl rfl rfl ?_
    refine v_bipush G 10 (decAt dd_GN_one 108 rfl) (by decide) ?_
    refine v_callVv G (As := [.ref (E.st (10 + 9)), .int 10]) (P := fun ρ' g' A' n' tx' => GnI (gline 9 10 (q)) g' A' n' ∧ GnF g A n g' A' n' ∧ tx' = tx) (rm := ({ frames := 5, cells := 0, slots := 0, locals := 107 } : Room)) (decAt dd_GN_one 109 rfl) k_GN_84 (c_GN_lineG l hE hI (i := 9) (v := 10) (by decide) hB1) (by decide) rfl rfl rfl (Nat.le_of_ble_eq_true rfl) (by decide) (by decide) ?_
    rintro ρ418 g418 A418 n418 tx418 ⟨hI418, hX418, etx⟩
    replace etx := etx.symm; subst etx
    have hF418 := GnF.trans (GnF.rf g A n) hX418
    refine v_aload_n G (decAt dd_GN_one 110 rfl) rfl ?_
    refine v_iconst G 0 (decAt dd_GN_one 111 rfl) (by decide) ?_
    refine v_puti G (decAt dd_GN_one 112 rfl) f_GN_143 rfl rfl rfl ?_
    refine v_goto G 376 (decAt dd_GN_one 113 rfl) (by decide) ?_
    refine v_room 64 4096 (by decide) (by decide) ?_
    exact v_vret G (decAt dd_GN_one 141 rfl) rfl ⟨rfl, (hI418.pre false rfl), (hF418.pg (k := 3) (f := 6) (by decide)), rfl⟩
  · skip
    have ht : 1 ≤ q.d := by have h := htk (by decide); have h : (1 : Int) ≤ (q.d : Int) := h; omega
    refine v_L (L' := [some (.ref (E.o 3)), some (.int (nI 21)), some (.int a), some (.int fo)]) (fun _ _ z => z) ?_
    have hC5 : Fit (gline 12 fo (gline 9 40 (gcon a (gload (q.d - 1) (gkeepAll q))))) := hB
    have hC4 := hC5.of (QLe.line _ _ _)
    have hC3 := hC4.of (QLe.line _ _ _)
    have hC2 := hC3.of (QLe.con _ _)
    have hC1 := hC2.of (QLe.load _ _)
    refine v_iload_n G (decAt dd_GN_one 0 rfl) rfl ?_
    refine v_tswIn G 328 (decAt dd_GN_one 1 rfl) (by decide) (by decide) rfl (by decide) ?_
    refine v_aload_n G (decAt dd_GN_one 114 rfl) rfl ?_
    refine v_callVv G (As := []) (P := fun ρ' g' A' n' tx' => GnI (gkeepAll q) g' A' n' ∧ GnF g A n g' A' n' ∧ tx' = tx) (rm := ({ frames := 9, cells := 61, slots := 3904, locals := 194 } : Room)) (decAt dd_GN_one 115 rfl) k_GN_184 (c_GN_keepAll l hE hI hC1) (by decide) rfl rfl rfl (Nat.le_of_ble_eq_true rfl) (by decide) (by decide) ?_
    rintro ρ419 g419 A419 n419 tx419 ⟨hI419, hX419, etx⟩
    replace etx := etx.symm; subst etx
    have hF419 := GnF.trans (GnF.rf g A n) hX419
    refine v_aload_n G (decAt dd_GN_one 116 rfl) rfl ?_
    refine v_aload_n G (decAt dd_GN_one 117 rfl) rfl ?_
    refine v_geti G (decAt dd_GN_one 118 rfl) f_GN_44 ?_
    refine v_ri (y := (nI q.d)) (hI419.dep.trans (congrArg nI (by simp only [gline_d, gload_d, gkeep_d, gkeepN_d, gtop_d, gbth_d, gboth_d, gkeepBelow_d, gkeep2_d, gkeep2N_d, gkeepAll_d, gset_d]))) ?_
    refine v_iconst G 1 (decAt dd_GN_one 119 rfl) (by decide) ?_
    refine v_isub G (decAt dd_GN_one 120 rfl) ?_
    refine v_ri (y := (nI (q.d - 1))) (nI_sb (a := q.d) (b := 1) (by omega)) ?_
    refine v_callVv G (As := [.int (nI (q.d - 1))]) (P := fun ρ' g' A' n' tx' => GnI (gload (q.d - 1) (gkeepAll q)) g' A' n' ∧ GnF g419 A419 n419 g' A' n' ∧ tx' = tx) (rm := ({ frames := 7, cells := 1, slots := 64, locals := 152 } : Room)) (decAt dd_GN_one 121 rfl) k_GN_107 (c_GN_load l hE hI419 (k := q.d - 1) (by first | omega | (simp only [gline_d, gload_d, gkeep_d, gkeepN_d, gtop_d, gbth_d, gboth_d, gkeepBelow_d, gkeep2_d, gkeep2N_d, gkeepAll_d, gset_d]; omega)) hC2) (by decide) rfl rfl rfl (Nat.le_of_ble_eq_true rfl) (by decide) (by decide) ?_
    rintro ρ420 g420 A420 n420 tx420 ⟨hI420, hX420, etx⟩
    replace etx := etx.symm; subst etx
    have hF420 := GnF.trans hF419 hX420
    refine v_aload_n G (decAt dd_GN_one 122 rfl) rfl ?_
    refine v_iload_n G (decAt dd_GN_one 123 rfl) rfl ?_
    refine v_callVv G (As := [.int a]) (P := fun ρ' g' A' n' tx' => GnI (gcon a (gload (q.d - 1) (gkeepAll q))) g' A' n' ∧ GnF g420 A420 n420 g' A' n' ∧ tx' = tx) (rm := ({ frames := 6, cells := 1, slots := 64, locals := 129 } : Room)) (decAt dd_GN_one 124 rfl) k_GN_96 (c_GN_constant l hE hI420 (v := a) hC3) (by decide) rfl rfl rfl (Nat.le_of_ble_eq_true rfl) (by decide) (by decide) ?_
    rintro ρ421 g421 A421 n421 tx421 ⟨hI421, hX421, etx⟩
    replace etx := etx.symm; subst etx
    have hF421 := GnF.trans hF420 hX421
    refine v_aload_n G (decAt dd_GN_one 125 rfl) rfl ?_
    refine q_ldcs G (i := 9) (decAt dd_GN_one 126 rfl) rfl rfl rfl ?_
    refine v_bipush G 40 (decAt dd_GN_one 127 rfl) (by decide) ?_
    refine v_callVv G (As := [.ref (E.st (10 + 9)), .int 40]) (P := fun ρ' g' A' n' tx' => GnI (gline 9 40 (gcon a (gload (q.d - 1) (gkeepAll q)))) g' A' n' ∧ GnF g421 A421 n421 g' A' n' ∧ tx' = tx) (rm := ({ frames := 5, cells := 0, slots := 0, locals := 107 } : Room)) (decAt dd_GN_one 128 rfl) k_GN_84 (c_GN_lineG l hE hI421 (i := 9) (v := 40) (by decide) hC4) (by decide) rfl rfl rfl (Nat.le_of_ble_eq_true rfl) (by decide) (by decide) ?_
    rintro ρ422 g422 A422 n422 tx422 ⟨hI422, hX422, etx⟩
    replace etx := etx.symm; subst etx
    have hF422 := GnF.trans hF421 hX422
    refine v_aload_n G (decAt dd_GN_one 129 rfl) rfl ?_
    refine q_ldcs G (i := 12) (decAt dd_GN_one 130 rfl) rfl rfl rfl ?_
    refine v_iload_n G (decAt dd_GN_one 131 rfl) rfl ?_
    refine v_callVv G (As := [.ref (E.st (10 + 12)), .int fo]) (P := fun ρ' g' A' n' tx' => GnI (gline 12 fo (gline 9 40 (gcon a (gload (q.d - 1) (gkeepAll q))))) g' A' n' ∧ GnF g422 A422 n422 g' A' n' ∧ tx' = tx) (rm := ({ frames := 5, cells := 0, slots := 0, locals := 107 } : Room)) (decAt dd_GN_one 132 rfl) k_GN_84 (c_GN_lineG l hE hI422 (i := 12) (v := fo) (by decide) hC5) (by decide) rfl rfl rfl (Nat.le_of_ble_eq_true rfl) (by decide) (by decide) ?_
    rintro ρ423 g423 A423 n423 tx423 ⟨hI423, hX423, etx⟩
    replace etx := etx.symm; subst etx
    have hF423 := GnF.trans hF422 hX423
    refine v_aload_n G (decAt dd_GN_one 133 rfl) rfl ?_
    refine v_iconst G 1 (decAt dd_GN_one 134 rfl) (by decide) ?_
    refine v_puti G (decAt dd_GN_one 135 rfl) f_GN_189 rfl rfl rfl ?_
    refine v_goto G 376 (decAt dd_GN_one 136 rfl) (by decide) ?_
    refine v_room 64 4096 (by decide) (by decide) ?_
    exact v_vret G (decAt dd_GN_one 141 rfl) rfl ⟨rfl, (hI423.psa true rfl), (hF423.pg (k := 3) (f := 15) (by decide)), rfl⟩
  · skip
    have ht : 2 ≤ q.d := by have h := htk (by decide); have h : (2 : Int) ≤ (q.d : Int) := h; omega
    refine v_L (L' := [some (.ref (E.o 3)), some (.int (nI 23)), some (.int a), some (.int fo)]) (fun _ _ z => z) ?_
    refine v_iload_n G (decAt dd_GN_one 0 rfl) rfl ?_
    refine v_tswIn G 214 (decAt dd_GN_one 1 rfl) (by decide) (by decide) rfl (by decide) ?_
    refine v_aload_n G (decAt dd_GN_one 54 rfl) rfl ?_
    refine v_bipush G 6 (decAt dd_GN_one 55 rfl) (by decide) ?_
    refine v_callVv G (As := [.int 6]) (P := fun ρ' g' A' n' tx' => GnI (gpair 6 q) g' A' n' ∧ GnF g A n g' A' n' ∧ tx' = tx) (rm := ({ frames := 10, cells := 3, slots := 192, locals := 214 } : Room)) (decAt dd_GN_one 56 rfl) k_GN_170 (c_GN_pair l hE hI (x := 6) ht hB) (by decide) rfl rfl rfl (Nat.le_of_ble_eq_true rfl) (by decide) (by decide) ?_
    rintro ρ424 g424 A424 n424 tx424 ⟨hI424, hX424, etx⟩
    replace etx := etx.symm; subst etx
    have hF424 := GnF.trans (GnF.rf g A n) hX424
    refine v_goto G 376 (decAt dd_GN_one 57 rfl) (by decide) ?_
    refine v_room 64 4096 (by decide) (by decide) ?_
    exact v_vret G (decAt dd_GN_one 141 rfl) rfl ⟨rfl, hI424, hF424, rfl⟩
  · skip
    have ht : 3 ≤ q.d := by have h := htk (by decide); have h : (3 : Int) ≤ (q.d : Int) := h; omega
    refine v_L (L' := [some (.ref (E.o 3)), some (.int (nI 24)), some (.int a), some (.int fo)]) (fun _ _ z => z) ?_
    refine v_iload_n G (decAt dd_GN_one 0 rfl) rfl ?_
    refine v_tswIn G 223 (decAt dd_GN_one 1 rfl) (by decide) (by decide) rfl (by decide) ?_
    refine v_aload_n G (decAt dd_GN_one 58 rfl) rfl ?_
    refine v_callVv G (As := []) (P := fun ρ' g' A' n' tx' => GnI (gbytes q) g' A' n' ∧ GnF g A n g' A' n' ∧ tx' = tx) (rm := ({ frames := 10, cells := 64, slots := 4096, locals := 215 } : Room)) (decAt dd_GN_one 59 rfl) k_GN_173 (c_GN_bytes l hE hI ht hB) (by decide) rfl rfl rfl (Nat.le_of_ble_eq_true rfl) (by decide) (by decide) ?_
    rintro ρ425 g425 A425 n425 tx425 ⟨hI425, hX425, etx⟩
    replace etx := etx.symm; subst etx
    have hF425 := GnF.trans (GnF.rf g A n) hX425
    refine v_goto G 376 (decAt dd_GN_one 60 rfl) (by decide) ?_
    refine v_room 64 4096 (by decide) (by decide) ?_
    exact v_vret G (decAt dd_GN_one 141 rfl) rfl ⟨rfl, hI425, hF425, rfl⟩
