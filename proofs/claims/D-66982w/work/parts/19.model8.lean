/-! the plain form: build and run -/
def Valid (num arg : Nat → Int32) (sz : Nat) : Prop := 0 < sz ∧ LabOK num arg sz ∧ ¬ noTyp (mkC num arg sz) ∧ Acy (mkC num arg sz)

set_option maxHeartbeats 4000000 in
theorem c_MD_build (l : Launch) {E : Bs} (hE : Hb E) {ρ : Nat → Nat} {g A : Nat → Nat → Int32} {n : Nat → Nat} {tx : Value} {sz : Nat} (hn : MN n) (hs : g 6 1 = nI sz) (hsz : sz ≤ 400) : CW l E DM AM y_MD_build b_MD_build 1 (some .boolean) ({ frames := 3, cells := 0, slots := 0, locals := 71 } : Room) [.ref (E.o 6)] ρ g A n tx (fun r ρ' g' A' n' tx' => ∃ b : Bool, r = some (.int (bI b)) ∧ (b = true ↔ Valid (A 29) (A 30) sz) ∧ ρ' = ρ ∧ g' = up2 g 6 0 0 ∧ n' = n ∧ tx' = tx ∧ ∀ i, i ≠ 33 → i ≠ 34 → A' i = A i) := by
  obtain ⟨hn1, hn2, hn3, hn4, hn5, hn6, hn7⟩ := hn
  refine CW.start [some (.ref (E.o 6))] hE (by decide) (Nat.le_of_ble_eq_true rfl) rfl ?_
  intro p e s m args below meth c G
  refine v_aload_n G (decAt dd_MD_build 0 rfl) rfl ?_
  refine v_iconst G 0 (decAt dd_MD_build 1 rfl) (by decide) ?_
  refine v_puti G (decAt dd_MD_build 2 rfl) f_MD_32 rfl rfl rfl ?_
  refine v_aload_n G (decAt dd_MD_build 3 rfl) rfl ?_
  refine v_geti G (decAt dd_MD_build 4 rfl) f_MD_36 ?_
  refine v_ri (y := (nI sz)) hs ?_
  refine v_if_le G 37 (decAt dd_MD_build 5 rfl) (by decide) (fun c9 => ?_) (fun c9 => ?_)
  · skip
    have hz : sz = 0 := by
      rcases Nat.eq_zero_or_pos sz with z | z
      · exact z
      · exact absurd c9 (nI_nle z (by omega))
    refine v_iconst G 0 (decAt dd_MD_build 17 rfl) (by decide) ?_
    exact v_zret G (decAt dd_MD_build 18 rfl) rfl rfl ⟨false, rfl, ⟨fun q => (by cases q), fun q => absurd q (fun q => by have := q.1; omega)⟩, rfl, rfl, rfl, rfl, fun _ _ _ => rfl⟩
  · skip
    have hpos : 0 < sz := Nat.pos_of_ne_zero fun z => c9 (by rw [z]; decide)
    refine v_aload_n G (decAt dd_MD_build 6 rfl) rfl ?_
    refine v_callVi0 G (As := []) (P := fun v ρ' g' A' n' tx' => ∃ b : Bool, v = bI b ∧ (b = true ↔ LabOK (A 29) (A 30) sz) ∧ ρ' = ρ ∧ g' = up2 g 6 0 0 ∧ A' = A ∧ n' = n ∧ tx' = tx) (rm := ({ frames := 2, cells := 0, slots := 0, locals := 43 } : Room)) (decAt dd_MD_build 7 rfl) k_MD_64 (CW.mono (c_MD_isSaid l hE (sz := sz) ⟨hn1, hn2, hn3, hn4, hn5, hn6, hn7⟩ hs hsz) fun r ρ' g' A' n' tx' h => by obtain ⟨b, h1, h2⟩ := h; exact ⟨_, h1, b, rfl, h2⟩) rfl rfl rfl rfl (Nat.le_of_ble_eq_true rfl) (by decide) rfl rfl (by decide) (fun v1 ρ1 g1 A1 n1 tx1 hv => ?_)
    obtain ⟨b1, rfl, hb1, rfl, rfl, rfl, rfl, rfl⟩ := hv
    refine v_if_eq G 37 (decAt dd_MD_build 8 rfl) (by decide) (fun c16 => ?_) (fun c16 => ?_)
    · skip
      have hb : b1 = false := by cases b1 with | true => exact absurd c16 (by decide) | false => rfl
      refine v_iconst G 0 (decAt dd_MD_build 17 rfl) (by decide) ?_
      exact v_zret G (decAt dd_MD_build 18 rfl) rfl rfl ⟨false, rfl, ⟨fun q => (by cases q), fun q => absurd q (fun q => by rw [hb1.mpr q.2.1] at hb; cases hb)⟩, rfl, rfl, rfl, rfl, fun _ _ _ => rfl⟩
    · skip
      have hLO := hb1.mp (eq_true_of_ne_false (fun z => c16 (bI_f z)))
      have hC := LabOK_code hLO
      have hL := LabOK_C hsz hLO
      have hcl := mkC_len (A1 29) (A1 30) sz
      refine v_aload_n G (decAt dd_MD_build 9 rfl) rfl ?_
      refine v_callVi0 G (As := []) (P := fun v ρ' g' A' n' tx' => ∃ b : Bool, v = bI b ∧ (b = true → HtsOK (mkC (A1 29) (A1 30) sz) (A' 33)) ∧ (b = false → noTyp (mkC (A1 29) (A1 30) sz)) ∧ ρ' = ρ1 ∧ g' = up2 g 6 0 0 ∧ n' = n1 ∧ tx' = tx1 ∧ ∀ i, i ≠ 33 → i ≠ 34 → A' i = A1 i) (rm := ({ frames := 2, cells := 0, slots := 0, locals := 46 } : Room)) (decAt dd_MD_build 10 rfl) k_MD_68 (CW.mono (c_MD_isEven l hE (cd := mkC (A1 29) (A1 30) sz) ⟨hn1, hn2, hn3, hn4, hn5, hn6, hn7⟩ (by rw [hcl]; exact hs) (by omega) (by omega) hC hL) fun r ρ' g' A' n' tx' h => by obtain ⟨b, h1, h2⟩ := h; exact ⟨_, h1, b, rfl, h2⟩) rfl rfl rfl rfl (Nat.le_of_ble_eq_true rfl) (by decide) rfl rfl (by decide) (fun v2 ρ2 g2 A2 n2 tx2 hv => ?_)
      obtain ⟨b2, rfl, hbt2, hbf2, rfl, rfl, rfl, rfl, hfr2⟩ := hv
      refine v_if_eq G 37 (decAt dd_MD_build 11 rfl) (by decide) (fun c23 => ?_) (fun c23 => ?_)
      · skip
        have hb : b2 = false := by cases b2 with | true => exact absurd c23 (by decide) | false => rfl
        refine v_iconst G 0 (decAt dd_MD_build 17 rfl) (by decide) ?_
        exact v_zret G (decAt dd_MD_build 18 rfl) rfl rfl ⟨false, rfl, ⟨fun q => (by cases q), fun q => absurd q (fun q => q.2.2.1 (hbf2 hb))⟩, rfl, rfl, rfl, rfl, hfr2⟩
      · skip
        have hH := hbt2 (eq_true_of_ne_false (fun z => c23 (bI_f z)))
        have hC2 : CodeIs (mkC (A1 29) (A1 30) sz) (A2 29) (A2 30) := by rw [hfr2 29 (by decide) (by decide), hfr2 30 (by decide) (by decide)]; exact hC
        refine v_aload_n G (decAt dd_MD_build 12 rfl) rfl ?_
        refine v_callVi0 G (As := []) (P := fun v ρ' g' A' n' tx' => ∃ b : Bool, v = bI b ∧ (b = true ↔ Acy (mkC (A1 29) (A1 30) sz)) ∧ ρ' = ρ2 ∧ g' = up2 g 6 0 0 ∧ n' = n2 ∧ tx' = tx2 ∧ ∀ i, i ≠ 34 → A' i = A2 i) (rm := ({ frames := 2, cells := 0, slots := 0, locals := 46 } : Room)) (decAt dd_MD_build 13 rfl) k_MD_71 (CW.mono (c_MD_isSpent l hE (cd := mkC (A1 29) (A1 30) sz) ⟨hn1, hn2, hn3, hn4, hn5, hn6, hn7⟩ (by rw [hcl]; exact hs) (by omega) (by omega) hC2 hL hH) fun r ρ' g' A' n' tx' h => by obtain ⟨b, h1, h2⟩ := h; exact ⟨_, h1, b, rfl, h2⟩) rfl rfl rfl rfl (Nat.le_of_ble_eq_true rfl) (by decide) rfl rfl (by decide) (fun v3 ρ3 g3 A3 n3 tx3 hv => ?_)
        obtain ⟨b3, rfl, hb3, rfl, rfl, rfl, rfl, hfr3⟩ := hv
        have hfr : ∀ i, i ≠ 33 → i ≠ 34 → A3 i = A1 i := fun i h1 h2 => (hfr3 i h2).trans (hfr2 i h1 h2)
        refine v_if_eq G 37 (decAt dd_MD_build 14 rfl) (by decide) (fun c30 => ?_) (fun c30 => ?_)
        · skip
          have hb : b3 = false := by cases b3 with | true => exact absurd c30 (by decide) | false => rfl
          refine v_iconst G 0 (decAt dd_MD_build 17 rfl) (by decide) ?_
          exact v_zret G (decAt dd_MD_build 18 rfl) rfl rfl ⟨false, rfl, ⟨fun q => (by cases q), fun q => absurd q (fun q => by rw [hb3.mpr q.2.2.2] at hb; cases hb)⟩, rfl, rfl, rfl, rfl, hfr⟩
        · skip
          refine v_iconst G 1 (decAt dd_MD_build 15 rfl) (by decide) ?_
          refine v_goto G 38 (decAt dd_MD_build 16 rfl) (by decide) ?_
          exact v_zret G (decAt dd_MD_build 18 rfl) rfl rfl ⟨true, rfl, ⟨fun _ => ⟨hpos, hLO, fun q => q ⟨_, hH.typ (by omega)⟩, hb3.mp (eq_true_of_ne_false (fun z => c30 (bI_f z)))⟩, fun _ => rfl⟩, rfl, rfl, rfl, rfl, hfr⟩
set_option maxHeartbeats 4000000 in
theorem c_MD_run_no (l : Launch) {E : Bs} (hE : Hb E) {ρ : Nat → Nat} {g A : Nat → Nat → Int32} {n : Nat → Nat} {tx : Value} {sz : Nat} {x : Int32} (hn : MN n) (hs : g 6 1 = nI sz) (hsz : sz ≤ 400) (hno : ¬ (0 ≤ x ∧ x ≤ 20000) ∨ ¬ Valid (A 29) (A 30) sz) : CW l E DM AM y_MD_run b_MD_run 5 (some .int) ({ frames := 4, cells := 0, slots := 0, locals := 91 } : Room) [.ref (E.o 6), .int x] ρ g A n tx (fun r ρ' g' A' n' tx' => r = some (.int (-1)) ∧ ρ' = ρ ∧ g' = up2 g 6 0 0 ∧ n' = n ∧ tx' = tx ∧ ∀ i, i ≠ 33 → i ≠ 34 → A' i = A i) := by
  obtain ⟨hn1, hn2, hn3, hn4, hn5, hn6, hn7⟩ := hn
  refine CW.start [some (.ref (E.o 6)), some (.int x), none, none, none] hE (by decide) (Nat.le_of_ble_eq_true rfl) rfl ?_
  intro p e s m args below meth c G
  refine v_aload_n G (decAt dd_MD_run 0 rfl) rfl ?_
  refine v_iconst G 0 (decAt dd_MD_run 1 rfl) (by decide) ?_
  refine v_puti G (decAt dd_MD_run 2 rfl) f_MD_32 rfl rfl rfl ?_
  refine v_iload_n G (decAt dd_MD_run 3 rfl) rfl ?_
  refine v_iconst G 0 (decAt dd_MD_run 4 rfl) (by decide) ?_
  refine v_sipush G 20000 (decAt dd_MD_run 5 rfl) (by decide) ?_
  refine p_callSi G (XB_Sy G) (As := [.int x, .int 0, .int 20000]) (decAt dd_MD_run 6 rfl) k_MD_39 (c_MD_in l hE) rfl rfl (Nat.le_of_ble_eq_true rfl) (by decide) rfl rfl (by decide) ?_
  refine v_if_eq G 23 (decAt dd_MD_run 7 rfl) (by decide) (fun c13 => ?_) (fun c13 => ?_)
  · skip
    refine v_iconst G (-1) (decAt dd_MD_run 11 rfl) (by decide) ?_
    exact v_iret G (decAt dd_MD_run 12 rfl) rfl ⟨rfl, rfl, rfl, rfl, rfl, fun _ _ _ => rfl⟩
  · skip
    refine v_aload_n G (decAt dd_MD_run 8 rfl) rfl ?_
    refine v_callVi0 G (As := []) (P := fun v ρ' g' A' n' tx' => ∃ b : Bool, v = bI b ∧ (b = true ↔ Valid (A 29) (A 30) sz) ∧ ρ' = ρ ∧ g' = up2 (up2 g 6 0 0) 6 0 0 ∧ n' = n ∧ tx' = tx ∧ ∀ i, i ≠ 33 → i ≠ 34 → A' i = A i) (rm := ({ frames := 3, cells := 0, slots := 0, locals := 71 } : Room)) (decAt dd_MD_run 9 rfl) k_MD_100 (CW.mono (c_MD_build l hE (sz := sz) ⟨hn1, hn2, hn3, hn4, hn5, hn6, hn7⟩ hs hsz) fun r ρ' g' A' n' tx' h => by obtain ⟨b, h1, h2⟩ := h; exact ⟨_, h1, b, rfl, h2⟩) rfl rfl rfl rfl (Nat.le_of_ble_eq_true rfl) (by decide) rfl rfl (by decide) (fun v1 ρ1 g1 A1 n1 tx1 hv => ?_)
    obtain ⟨b1, rfl, hb1, rfl, rfl, rfl, rfl, hfr1⟩ := hv
    refine v_if_ne G 25 (decAt dd_MD_run 10 rfl) (by decide) (fun c20 => ?_) (fun c20 => ?_)
    · skip
      exact absurd (hb1.mp (eq_true_of_ne_false (fun z => c20 (bI_f z)))) (hno.resolve_left (fun z => z (of_decide_eq_true (eq_true_of_ne_false (fun y => c13 (bI_f y))))))
    · skip
      refine v_iconst G (-1) (decAt dd_MD_run 11 rfl) (by decide) ?_
      exact v_iret G (decAt dd_MD_run 12 rfl) rfl ⟨rfl, rfl, up2_up2 _ _ _ _ _, rfl, rfl, hfr1⟩
set_option maxHeartbeats 4000000 in
theorem c_MD_run_yes (l : Launch) {E : Bs} (hE : Hb E) {ρ : Nat → Nat} {g A : Nat → Nat → Int32} {n : Nat → Nat} {tx : Value} {sz fu N how fu' : Nat} {val : Int32} {loc' wrd' : Nat → Int32} (hn : MN n) (hs : g 6 1 = nI sz) (hsz : sz ≤ 400) (hfu : fu ≤ 20000) (hV : Valid (A 29) (A 30) sz) (hrun : crun (mkC (A 29) (A 30) sz) N 0 [] (A 31) (A 32) fu = some (how, val, loc', wrd', fu')) : CW l E DM AM y_MD_run b_MD_run 5 (some .int) ({ frames := 4, cells := 0, slots := 0, locals := 91 } : Room) [.ref (E.o 6), .int (nI fu)] ρ g A n tx (fun r ρ' g' A' n' tx' => r = some (.int (nI how)) ∧ ρ' = ρ ∧ n' = n ∧ tx' = tx ∧ g' 6 0 = 0 ∧ g' 6 6 = val ∧ g' 6 7 = nI fu' ∧ g' 6 1 = nI sz ∧ A' 31 = loc' ∧ A' 32 = wrd' ∧ A' 29 = A 29 ∧ A' 30 = A 30) := by
  obtain ⟨hn1, hn2, hn3, hn4, hn5, hn6, hn7⟩ := hn
  refine CW.start [some (.ref (E.o 6)), some (.int (nI fu)), none, none, none] hE (by decide) (Nat.le_of_ble_eq_true rfl) rfl ?_
  intro p e s m args below meth c G
  refine v_aload_n G (decAt dd_MD_run 0 rfl) rfl ?_
  refine v_iconst G 0 (decAt dd_MD_run 1 rfl) (by decide) ?_
  refine v_puti G (decAt dd_MD_run 2 rfl) f_MD_32 rfl rfl rfl ?_
  refine v_iload_n G (decAt dd_MD_run 3 rfl) rfl ?_
  refine v_iconst G 0 (decAt dd_MD_run 4 rfl) (by decide) ?_
  refine v_sipush G 20000 (decAt dd_MD_run 5 rfl) (by decide) ?_
  refine p_callSi G (XB_Sy G) (As := [.int (nI fu), .int 0, .int 20000]) (decAt dd_MD_run 6 rfl) k_MD_39 (c_MD_in l hE) rfl rfl (Nat.le_of_ble_eq_true rfl) (by decide) rfl rfl (by decide) ?_
  refine v_ri (y := 1) (in_t (nI_in0 (k := 20000) (by omega) (by omega))) ?_
  refine v_if_eq G 23 (decAt dd_MD_run 7 rfl) (by decide) (fun c13 => ?_) (fun c13 => ?_)
  · skip
    exact absurd c13 (by decide)
  · skip
    refine v_aload_n G (decAt dd_MD_run 8 rfl) rfl ?_
    refine v_callVi0 G (As := []) (P := fun v ρ' g' A' n' tx' => ∃ b : Bool, v = bI b ∧ (b = true ↔ Valid (A 29) (A 30) sz) ∧ ρ' = ρ ∧ g' = up2 (up2 g 6 0 0) 6 0 0 ∧ n' = n ∧ tx' = tx ∧ ∀ i, i ≠ 33 → i ≠ 34 → A' i = A i) (rm := ({ frames := 3, cells := 0, slots := 0, locals := 71 } : Room)) (decAt dd_MD_run 9 rfl) k_MD_100 (CW.mono (c_MD_build l hE (sz := sz) ⟨hn1, hn2, hn3, hn4, hn5, hn6, hn7⟩ hs hsz) fun r ρ' g' A' n' tx' h => by obtain ⟨b, h1, h2⟩ := h; exact ⟨_, h1, b, rfl, h2⟩) rfl rfl rfl rfl (Nat.le_of_ble_eq_true rfl) (by decide) rfl rfl (by decide) (fun v1 ρ1 g1 A1 n1 tx1 hv => ?_)
    obtain ⟨b1, rfl, hb1, rfl, rfl, rfl, rfl, hfr1⟩ := hv
    refine v_if_ne G 25 (decAt dd_MD_run 10 rfl) (by decide) (fun c20 => ?_) (fun c20 => ?_)
    · skip
      refine v_aload_n G (decAt dd_MD_run 13 rfl) rfl ?_
      refine v_iconst G 0 (decAt dd_MD_run 14 rfl) (by decide) ?_
      refine v_puti G (decAt dd_MD_run 15 rfl) f_MD_74 rfl rfl rfl ?_
      refine v_aload_n G (decAt dd_MD_run 16 rfl) rfl ?_
      refine v_iload_n G (decAt dd_MD_run 17 rfl) rfl ?_
      refine v_puti G (decAt dd_MD_run 18 rfl) f_MD_103 rfl rfl rfl ?_
      refine v_aload_n G (decAt dd_MD_run 19 rfl) rfl ?_
      refine v_iconst G 0 (decAt dd_MD_run 20 rfl) (by decide) ?_
      refine v_puti G (decAt dd_MD_run 21 rfl) f_MD_106 rfl rfl rfl ?_
      refine v_iconst G 0 (decAt dd_MD_run 22 rfl) (by decide) ?_
      refine v_istore_2 G (decAt dd_MD_run 23 rfl) (by decide) rfl ?_
      refine md_loop rfl G hE (cd := mkC (A 29) (A 30) sz) (g0 := up2 (up2 g 6 0 0) 6 0 0) (A0 := A1) (how := how) (val := val) (loc' := loc') (wrd' := wrd') (fu' := fu') (by decide) (by decide) (by decide) ⟨hn1, hn2, hn3, hn4, hn5, hn6, hn7⟩ (by rw [mkC_len]; exact hsz) (by rw [mkC_len]; exact hs) (by rw [hfr1 29 (by decide) (by decide), hfr1 30 (by decide) (by decide)]; exact LabOK_code hV.2.1) (fun g' A' hq => ?_) N 0 [] fu _ A1 _ _ (by rw [hfr1 31 (by decide) (by decide), hfr1 32 (by decide) (by decide)]; exact hrun) hfu rfl rfl rfl trivial (fun k f h => ?_) (fun _ _ _ _ => rfl)
      · obtain ⟨q1, q2, q3, q4, q5, q6⟩ := hq
        exact ⟨rfl, rfl, rfl, rfl, q3 6 0 (by decide), q1, q2, (q3 6 1 (by decide)).trans hs, q4, q5, (q6 29 (by decide) (by decide) (by decide)).trans (hfr1 29 (by decide) (by decide)), (q6 30 (by decide) (by decide) (by decide)).trans (hfr1 30 (by decide) (by decide))⟩
      · rw [c_up (fun z => h ⟨z.1, Or.inl z.2⟩), c_up (fun z => h ⟨z.1, Or.inr (Or.inl z.2)⟩), c_up (fun z => h ⟨z.1, Or.inr (Or.inr z.2)⟩)]
    · skip
      exact absurd c20 (by rw [bI_t (hb1.mpr hV)]; decide)
