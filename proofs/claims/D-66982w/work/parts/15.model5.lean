/-! the plain form: whether the code is said right -/
def LabK (num arg : Nat → Int32) (sz j : Nat) : Nat → Prop
  | 0 => good1 (num j) (arg j) = true
  | 1 => ¬ num j = 13 ∨ plcI num arg sz (arg j) = nI j
  | 2 => num j < 10 ∨ 12 < num j ∨ ¬ plcI num arg sz (arg j) = -1
  | _ => ¬ num j = 18 ∨ (j + 1 < sz ∧ num (j + 1) = 12)
def LabOK1 (num arg : Nat → Int32) (sz j : Nat) : Prop := LabK num arg sz j 0 ∧ LabK num arg sz j 1 ∧ LabK num arg sz j 2 ∧ LabK num arg sz j 3
def LabOK (num arg : Nat → Int32) (sz : Nat) : Prop := ∀ j, j < sz → LabOK1 num arg sz j

set_option maxHeartbeats 4000000 in
theorem c_MD_isSaid (l : Launch) {E : Bs} (hE : Hb E) {ρ : Nat → Nat} {g A : Nat → Nat → Int32} {n : Nat → Nat} {tx : Value} {sz : Nat} (hn : MN n) (hs : g 6 1 = nI sz) (hsz : sz ≤ 400) : CW l E DM AM y_MD_isSaid b_MD_isSaid 4 (some .boolean) ({ frames := 2, cells := 0, slots := 0, locals := 43 } : Room) [.ref (E.o 6)] ρ g A n tx (fun r ρ' g' A' n' tx' => ∃ b : Bool, r = some (.int (bI b)) ∧ (b = true ↔ LabOK (A 29) (A 30) sz) ∧ ρ' = ρ ∧ g' = g ∧ A' = A ∧ n' = n ∧ tx' = tx) := by
  obtain ⟨hn1, hn2, hn3, hn4, hn5, hn6, hn7⟩ := hn
  refine CW.start [some (.ref (E.o 6)), none, none, none] hE (by decide) (Nat.le_of_ble_eq_true rfl) rfl ?_
  intro p e s m args below meth c G
  have J : ∀ (d i : Nat) (b : Bool) (x3 : Option Value), i + d = sz → (b = true ↔ ∀ j, j < i → LabOK1 (A 29) (A 30) sz j) → V p l e ({ frames := 2, cells := 0, slots := 0, locals := 43 } : Room) s m args below meth c 4 (Sy E DM AM s.heap ρ g A n tx) 0 0 (MQ below (QW E DM AM (fun r ρ' g' A' n' tx' => ∃ b : Bool, r = some (.int (bI b)) ∧ (b = true ↔ LabOK (A 29) (A 30) sz) ∧ ρ' = ρ ∧ g' = g ∧ A' = A ∧ n' = n ∧ tx' = tx)) args s 0 0 E.F) 4 [some (.ref (E.o 6)), some (.int (bI b)), some (.int (nI i)), x3] [] := by
    intro d
    induction d with
    | zero =>
      intro i b x3 hi hb
      have hi : i = sz := hi
      subst hi
      refine v_iload_n G (decAt dd_MD_isSaid 4 rfl) rfl ?_
      refine v_aload_n G (decAt dd_MD_isSaid 5 rfl) rfl ?_
      refine v_geti G (decAt dd_MD_isSaid 6 rfl) f_MD_36 ?_
      refine v_ri (y := (nI i)) hs ?_
      refine v_icmp_ge G 153 (decAt dd_MD_isSaid 7 rfl) (by decide) (fun c9 => ?_) (fun c9 => ?_)
      · skip
        refine v_iload_n G (decAt dd_MD_isSaid 88 rfl) rfl ?_
        exact v_zret G (decAt dd_MD_isSaid 89 rfl) rfl (by unfold bI; split <;> rfl) ⟨b, rfl, hb, rfl, rfl, rfl, rfl, rfl⟩
      · skip
        exact absurd (nI_le (Nat.le_refl _) (by omega)) c9
    | succ d ih =>
      intro i b x3 hi hb
      have J147 : ∀ b : Bool, (b = true ↔ (∀ j, j < i → LabOK1 (A 29) (A 30) sz j) ∧ LabK (A 29) (A 30) sz i 0 ∧ LabK (A 29) (A 30) sz i 1 ∧ LabK (A 29) (A 30) sz i 2 ∧ LabK (A 29) (A 30) sz i 3) → V p l e ({ frames := 2, cells := 0, slots := 0, locals := 43 } : Room) s m args below meth c 4 (Sy E DM AM s.heap ρ g A n tx) 0 0 (MQ below (QW E DM AM (fun r ρ' g' A' n' tx' => ∃ b : Bool, r = some (.int (bI b)) ∧ (b = true ↔ LabOK (A 29) (A 30) sz) ∧ ρ' = ρ ∧ g' = g ∧ A' = A ∧ n' = n ∧ tx' = tx)) args s 0 0 E.F) 147 [some (.ref (E.o 6)), some (.int (bI b)), some (.int (nI i)), some (.int (A 29 i))] [] := by
        intro b hb
        refine v_iinc_2 G (nI (i + 1)) (decAt dd_MD_isSaid 86 rfl) (nI_1 i) (by decide) rfl ?_
        refine v_goto G 4 (decAt dd_MD_isSaid 87 rfl) (by decide) ?_
        exact ih (i + 1) b _ (by omega) (hb.trans ⟨fun z => lt_s z.1 z.2, fun z => ⟨fun j hj => z j (by omega), z i (by omega)⟩⟩)
      have J108 : ∀ b : Bool, (b = true ↔ (∀ j, j < i → LabOK1 (A 29) (A 30) sz j) ∧ LabK (A 29) (A 30) sz i 0 ∧ LabK (A 29) (A 30) sz i 1 ∧ LabK (A 29) (A 30) sz i 2) → V p l e ({ frames := 2, cells := 0, slots := 0, locals := 43 } : Room) s m args below meth c 4 (Sy E DM AM s.heap ρ g A n tx) 0 0 (MQ below (QW E DM AM (fun r ρ' g' A' n' tx' => ∃ b : Bool, r = some (.int (bI b)) ∧ (b = true ↔ LabOK (A 29) (A 30) sz) ∧ ρ' = ρ ∧ g' = g ∧ A' = A ∧ n' = n ∧ tx' = tx)) args s 0 0 E.F) 108 [some (.ref (E.o 6)), some (.int (bI b)), some (.int (nI i)), some (.int (A 29 i))] [] := by
        intro b hb
        refine v_iload_n G (decAt dd_MD_isSaid 63 rfl) rfl ?_
        refine v_if_eq G 145 (decAt dd_MD_isSaid 64 rfl) (by decide) (fun c109 => ?_) (fun c109 => ?_)
        · skip
          refine v_iconst G 0 (decAt dd_MD_isSaid 84 rfl) (by decide) ?_
          refine v_istore_1 G (decAt dd_MD_isSaid 85 rfl) (by decide) rfl ?_
          refine J147 false ?_
          refine ⟨fun z => (by cases z), fun z => ?_⟩
          exfalso
          first
            | exact absurd (hb.mpr ⟨z.1, z.2.1, z.2.2.1, z.2.2.2.1⟩) (fun q => by rw [bI_t q] at c109; exact absurd c109 (by decide))
            | exact (z.2.2.2.2).elim (fun q => q c115) (fun q => absurd c125 (by rw [show nI i + 1 = nI (i + 1) from nI_1 i]; exact nI_ge q.1 (by omega)))
            | exact (z.2.2.2.2).elim (fun q => q c115) (fun q => c138 q.2)
        · skip
          refine v_iload_n G (decAt dd_MD_isSaid 65 rfl) rfl ?_
          refine v_bipush G 18 (decAt dd_MD_isSaid 66 rfl) (by decide) ?_
          refine v_icmp_ne G 141 (decAt dd_MD_isSaid 67 rfl) (by decide) (fun c115 => ?_) (fun c115 => ?_)
          · skip
            refine v_iconst G 1 (decAt dd_MD_isSaid 82 rfl) (by decide) ?_
            refine v_goto G 146 (decAt dd_MD_isSaid 83 rfl) (by decide) ?_
            refine v_istore_1 G (decAt dd_MD_isSaid 85 rfl) (by decide) rfl ?_
            refine J147 true ?_
            have hbt : b = true := eq_true_of_ne_false (fun z => c109 (bI_f z))
            exact ⟨fun _ => by have h := hb.mp hbt; exact ⟨h.1, h.2.1, h.2.2.1, h.2.2.2, (by first | exact Or.inl c115 | exact Or.inr ⟨c125, c138⟩)⟩, fun _ => rfl⟩
          · skip
            refine v_iload_n G (decAt dd_MD_isSaid 68 rfl) rfl ?_
            refine v_iconst G 1 (decAt dd_MD_isSaid 69 rfl) (by decide) ?_
            refine v_iadd G (decAt dd_MD_isSaid 70 rfl) ?_
            refine v_aload_n G (decAt dd_MD_isSaid 71 rfl) rfl ?_
            refine v_geti G (decAt dd_MD_isSaid 72 rfl) f_MD_36 ?_
            refine v_ri (y := (nI sz)) hs ?_
            refine v_icmp_ge G 145 (decAt dd_MD_isSaid 73 rfl) (by decide) (fun c125 => ?_) (fun c125 => ?_)
            · skip
              refine v_iconst G 0 (decAt dd_MD_isSaid 84 rfl) (by decide) ?_
              refine v_istore_1 G (decAt dd_MD_isSaid 85 rfl) (by decide) rfl ?_
              refine J147 false ?_
              refine ⟨fun z => (by cases z), fun z => ?_⟩
              exfalso
              first
                | exact absurd (hb.mpr ⟨z.1, z.2.1, z.2.2.1, z.2.2.2.1⟩) (fun q => by rw [bI_t q] at c109; exact absurd c109 (by decide))
                | exact (z.2.2.2.2).elim (fun q => q c115) (fun q => absurd c125 (by rw [show nI i + 1 = nI (i + 1) from nI_1 i]; exact nI_ge q.1 (by omega)))
                | exact (z.2.2.2.2).elim (fun q => q c115) (fun q => c138 q.2)
            · skip
              have c125 : i + 1 < sz := Nat.lt_of_not_le fun z => c125 (by rw [show nI i + 1 = nI (i + 1) from nI_1 i]; exact nI_le z (by omega))
              refine v_aload_n G (decAt dd_MD_isSaid 74 rfl) rfl ?_
              refine v_geta G (decAt dd_MD_isSaid 75 rfl) f_MD_7 ?_
              refine v_iload_n G (decAt dd_MD_isSaid 76 rfl) rfl ?_
              refine v_iconst G 1 (decAt dd_MD_isSaid 77 rfl) (by decide) ?_
              refine v_iadd G (decAt dd_MD_isSaid 78 rfl) ?_
              refine v_iald G 29 (i + 1) (decAt dd_MD_isSaid 79 rfl) (by decide) rfl (nI_1 i) (by omega) ?_
              refine v_bipush G 12 (decAt dd_MD_isSaid 80 rfl) (by decide) ?_
              refine v_icmp_ne G 145 (decAt dd_MD_isSaid 81 rfl) (by decide) (fun c138 => ?_) (fun c138 => ?_)
              · skip
                refine v_iconst G 0 (decAt dd_MD_isSaid 84 rfl) (by decide) ?_
                refine v_istore_1 G (decAt dd_MD_isSaid 85 rfl) (by decide) rfl ?_
                refine J147 false ?_
                refine ⟨fun z => (by cases z), fun z => ?_⟩
                exfalso
                first
                  | exact absurd (hb.mpr ⟨z.1, z.2.1, z.2.2.1, z.2.2.2.1⟩) (fun q => by rw [bI_t q] at c109; exact absurd c109 (by decide))
                  | exact (z.2.2.2.2).elim (fun q => q c115) (fun q => absurd c125 (by rw [show nI i + 1 = nI (i + 1) from nI_1 i]; exact nI_ge q.1 (by omega)))
                  | exact (z.2.2.2.2).elim (fun q => q c115) (fun q => c138 q.2)
              · skip
                refine v_iconst G 1 (decAt dd_MD_isSaid 82 rfl) (by decide) ?_
                refine v_goto G 146 (decAt dd_MD_isSaid 83 rfl) (by decide) ?_
                refine v_istore_1 G (decAt dd_MD_isSaid 85 rfl) (by decide) rfl ?_
                refine J147 true ?_
                have hbt : b = true := eq_true_of_ne_false (fun z => c109 (bI_f z))
                exact ⟨fun _ => by have h := hb.mp hbt; exact ⟨h.1, h.2.1, h.2.2.1, h.2.2.2, (by first | exact Or.inl c115 | exact Or.inr ⟨c125, c138⟩)⟩, fun _ => rfl⟩
      have J72 : ∀ b : Bool, (b = true ↔ (∀ j, j < i → LabOK1 (A 29) (A 30) sz j) ∧ LabK (A 29) (A 30) sz i 0 ∧ LabK (A 29) (A 30) sz i 1) → V p l e ({ frames := 2, cells := 0, slots := 0, locals := 43 } : Room) s m args below meth c 4 (Sy E DM AM s.heap ρ g A n tx) 0 0 (MQ below (QW E DM AM (fun r ρ' g' A' n' tx' => ∃ b : Bool, r = some (.int (bI b)) ∧ (b = true ↔ LabOK (A 29) (A 30) sz) ∧ ρ' = ρ ∧ g' = g ∧ A' = A ∧ n' = n ∧ tx' = tx)) args s 0 0 E.F) 72 [some (.ref (E.o 6)), some (.int (bI b)), some (.int (nI i)), some (.int (A 29 i))] [] := by
        intro b hb
        refine v_iload_n G (decAt dd_MD_isSaid 43 rfl) rfl ?_
        refine v_if_eq G 106 (decAt dd_MD_isSaid 44 rfl) (by decide) (fun c73 => ?_) (fun c73 => ?_)
        · skip
          refine v_iconst G 0 (decAt dd_MD_isSaid 61 rfl) (by decide) ?_
          refine v_istore_1 G (decAt dd_MD_isSaid 62 rfl) (by decide) rfl ?_
          refine J108 false ?_
          refine ⟨fun z => (by cases z), fun z => ?_⟩
          exfalso
          first
            | exact absurd (hb.mpr ⟨z.1, z.2.1, z.2.2.1⟩) (fun q => by rw [bI_t q] at c73; exact absurd c73 (by decide))
            | exact (z.2.2.2).elim (fun q => c79 q) (fun q => q.elim (fun q => c85 q) (fun q => q c99))
        · skip
          refine v_iload_n G (decAt dd_MD_isSaid 45 rfl) rfl ?_
          refine v_bipush G 10 (decAt dd_MD_isSaid 46 rfl) (by decide) ?_
          refine v_icmp_lt G 102 (decAt dd_MD_isSaid 47 rfl) (by decide) (fun c79 => ?_) (fun c79 => ?_)
          · skip
            refine v_iconst G 1 (decAt dd_MD_isSaid 59 rfl) (by decide) ?_
            refine v_goto G 107 (decAt dd_MD_isSaid 60 rfl) (by decide) ?_
            refine v_istore_1 G (decAt dd_MD_isSaid 62 rfl) (by decide) rfl ?_
            refine J108 true ?_
            have hbt : b = true := eq_true_of_ne_false (fun z => c73 (bI_f z))
            exact ⟨fun _ => by have h := hb.mp hbt; exact ⟨h.1, h.2.1, h.2.2, (by first | exact Or.inl c79 | exact Or.inr (Or.inl c85) | exact Or.inr (Or.inr c99))⟩, fun _ => rfl⟩
          · skip
            refine v_iload_n G (decAt dd_MD_isSaid 48 rfl) rfl ?_
            refine v_bipush G 12 (decAt dd_MD_isSaid 49 rfl) (by decide) ?_
            refine v_icmp_gt G 102 (decAt dd_MD_isSaid 50 rfl) (by decide) (fun c85 => ?_) (fun c85 => ?_)
            · skip
              refine v_iconst G 1 (decAt dd_MD_isSaid 59 rfl) (by decide) ?_
              refine v_goto G 107 (decAt dd_MD_isSaid 60 rfl) (by decide) ?_
              refine v_istore_1 G (decAt dd_MD_isSaid 62 rfl) (by decide) rfl ?_
              refine J108 true ?_
              have hbt : b = true := eq_true_of_ne_false (fun z => c73 (bI_f z))
              exact ⟨fun _ => by have h := hb.mp hbt; exact ⟨h.1, h.2.1, h.2.2, (by first | exact Or.inl c79 | exact Or.inr (Or.inl c85) | exact Or.inr (Or.inr c99))⟩, fun _ => rfl⟩
            · skip
              refine v_aload_n G (decAt dd_MD_isSaid 51 rfl) rfl ?_
              refine v_aload_n G (decAt dd_MD_isSaid 52 rfl) rfl ?_
              refine v_geta G (decAt dd_MD_isSaid 53 rfl) f_MD_13 ?_
              refine v_iload_n G (decAt dd_MD_isSaid 54 rfl) rfl ?_
              refine v_iald G 30 _ (decAt dd_MD_isSaid 55 rfl) (by decide) rfl (by first | with_reducible rfl | with_reducible exact nI_1 _ | with_reducible exact nI_add _ _ | assumption) (by omega) ?_
              refine v_callVis G (As := [.int ((A 30) i)]) (decAt dd_MD_isSaid 56 rfl) k_MD_47 (c_MD_place l hE (sz := sz) ⟨hn1, hn2, hn3, hn4, hn5, hn6, hn7⟩ hs hsz) rfl rfl rfl rfl (Nat.le_of_ble_eq_true rfl) (by decide) rfl rfl (by decide) ?_
              refine v_iconst G (-1) (decAt dd_MD_isSaid 57 rfl) (by decide) ?_
              refine v_icmp_eq G 106 (decAt dd_MD_isSaid 58 rfl) (by decide) (fun c99 => ?_) (fun c99 => ?_)
              · skip
                refine v_iconst G 0 (decAt dd_MD_isSaid 61 rfl) (by decide) ?_
                refine v_istore_1 G (decAt dd_MD_isSaid 62 rfl) (by decide) rfl ?_
                refine J108 false ?_
                refine ⟨fun z => (by cases z), fun z => ?_⟩
                exfalso
                first
                  | exact absurd (hb.mpr ⟨z.1, z.2.1, z.2.2.1⟩) (fun q => by rw [bI_t q] at c73; exact absurd c73 (by decide))
                  | exact (z.2.2.2).elim (fun q => c79 q) (fun q => q.elim (fun q => c85 q) (fun q => q c99))
              · skip
                refine v_iconst G 1 (decAt dd_MD_isSaid 59 rfl) (by decide) ?_
                refine v_goto G 107 (decAt dd_MD_isSaid 60 rfl) (by decide) ?_
                refine v_istore_1 G (decAt dd_MD_isSaid 62 rfl) (by decide) rfl ?_
                refine J108 true ?_
                have hbt : b = true := eq_true_of_ne_false (fun z => c73 (bI_f z))
                exact ⟨fun _ => by have h := hb.mp hbt; exact ⟨h.1, h.2.1, h.2.2, (by first | exact Or.inl c79 | exact Or.inr (Or.inl c85) | exact Or.inr (Or.inr c99))⟩, fun _ => rfl⟩
      have J42 : ∀ b : Bool, (b = true ↔ (∀ j, j < i → LabOK1 (A 29) (A 30) sz j) ∧ LabK (A 29) (A 30) sz i 0) → V p l e ({ frames := 2, cells := 0, slots := 0, locals := 43 } : Room) s m args below meth c 4 (Sy E DM AM s.heap ρ g A n tx) 0 0 (MQ below (QW E DM AM (fun r ρ' g' A' n' tx' => ∃ b : Bool, r = some (.int (bI b)) ∧ (b = true ↔ LabOK (A 29) (A 30) sz) ∧ ρ' = ρ ∧ g' = g ∧ A' = A ∧ n' = n ∧ tx' = tx)) args s 0 0 E.F) 42 [some (.ref (E.o 6)), some (.int (bI b)), some (.int (nI i)), some (.int (A 29 i))] [] := by
        intro b hb
        refine v_iload_n G (decAt dd_MD_isSaid 26 rfl) rfl ?_
        refine v_if_eq G 70 (decAt dd_MD_isSaid 27 rfl) (by decide) (fun c43 => ?_) (fun c43 => ?_)
        · skip
          refine v_iconst G 0 (decAt dd_MD_isSaid 41 rfl) (by decide) ?_
          refine v_istore_1 G (decAt dd_MD_isSaid 42 rfl) (by decide) rfl ?_
          refine J72 false ?_
          refine ⟨fun z => (by cases z), fun z => ?_⟩
          exfalso
          first
            | exact absurd (hb.mpr ⟨z.1, z.2.1⟩) (fun q => by rw [bI_t q] at c43; exact absurd c43 (by decide))
            | exact (z.2.2).elim (fun q => q c49) (fun q => c63 q)
        · skip
          refine v_iload_n G (decAt dd_MD_isSaid 28 rfl) rfl ?_
          refine v_bipush G 13 (decAt dd_MD_isSaid 29 rfl) (by decide) ?_
          refine v_icmp_ne G 66 (decAt dd_MD_isSaid 30 rfl) (by decide) (fun c49 => ?_) (fun c49 => ?_)
          · skip
            refine v_iconst G 1 (decAt dd_MD_isSaid 39 rfl) (by decide) ?_
            refine v_goto G 71 (decAt dd_MD_isSaid 40 rfl) (by decide) ?_
            refine v_istore_1 G (decAt dd_MD_isSaid 42 rfl) (by decide) rfl ?_
            refine J72 true ?_
            have hbt : b = true := eq_true_of_ne_false (fun z => c43 (bI_f z))
            exact ⟨fun _ => by have h := hb.mp hbt; exact ⟨h.1, h.2, (by first | exact Or.inl c49 | exact Or.inr c63)⟩, fun _ => rfl⟩
          · skip
            refine v_aload_n G (decAt dd_MD_isSaid 31 rfl) rfl ?_
            refine v_aload_n G (decAt dd_MD_isSaid 32 rfl) rfl ?_
            refine v_geta G (decAt dd_MD_isSaid 33 rfl) f_MD_13 ?_
            refine v_iload_n G (decAt dd_MD_isSaid 34 rfl) rfl ?_
            refine v_iald G 30 _ (decAt dd_MD_isSaid 35 rfl) (by decide) rfl (by first | with_reducible rfl | with_reducible exact nI_1 _ | with_reducible exact nI_add _ _ | assumption) (by omega) ?_
            refine v_callVis G (As := [.int ((A 30) i)]) (decAt dd_MD_isSaid 36 rfl) k_MD_47 (c_MD_place l hE (sz := sz) ⟨hn1, hn2, hn3, hn4, hn5, hn6, hn7⟩ hs hsz) rfl rfl rfl rfl (Nat.le_of_ble_eq_true rfl) (by decide) rfl rfl (by decide) ?_
            refine v_iload_n G (decAt dd_MD_isSaid 37 rfl) rfl ?_
            refine v_icmp_ne G 70 (decAt dd_MD_isSaid 38 rfl) (by decide) (fun c63 => ?_) (fun c63 => ?_)
            · skip
              refine v_iconst G 0 (decAt dd_MD_isSaid 41 rfl) (by decide) ?_
              refine v_istore_1 G (decAt dd_MD_isSaid 42 rfl) (by decide) rfl ?_
              refine J72 false ?_
              refine ⟨fun z => (by cases z), fun z => ?_⟩
              exfalso
              first
                | exact absurd (hb.mpr ⟨z.1, z.2.1⟩) (fun q => by rw [bI_t q] at c43; exact absurd c43 (by decide))
                | exact (z.2.2).elim (fun q => q c49) (fun q => c63 q)
            · skip
              refine v_iconst G 1 (decAt dd_MD_isSaid 39 rfl) (by decide) ?_
              refine v_goto G 71 (decAt dd_MD_isSaid 40 rfl) (by decide) ?_
              refine v_istore_1 G (decAt dd_MD_isSaid 42 rfl) (by decide) rfl ?_
              refine J72 true ?_
              have hbt : b = true := eq_true_of_ne_false (fun z => c43 (bI_f z))
              exact ⟨fun _ => by have h := hb.mp hbt; exact ⟨h.1, h.2, (by first | exact Or.inl c49 | exact Or.inr c63)⟩, fun _ => rfl⟩
      refine v_iload_n G (decAt dd_MD_isSaid 4 rfl) rfl ?_
      refine v_aload_n G (decAt dd_MD_isSaid 5 rfl) rfl ?_
      refine v_geti G (decAt dd_MD_isSaid 6 rfl) f_MD_36 ?_
      refine v_ri (y := (nI sz)) hs ?_
      refine v_icmp_ge G 153 (decAt dd_MD_isSaid 7 rfl) (by decide) (fun c9 => ?_) (fun c9 => ?_)
      · skip
        exact absurd c9 (nI_ge (by omega) (by omega))
      · skip
        refine v_aload_n G (decAt dd_MD_isSaid 8 rfl) rfl ?_
        refine v_geta G (decAt dd_MD_isSaid 9 rfl) f_MD_7 ?_
        refine v_iload_n G (decAt dd_MD_isSaid 10 rfl) rfl ?_
        refine v_iald G 29 _ (decAt dd_MD_isSaid 11 rfl) (by decide) rfl (by first | with_reducible rfl | with_reducible exact nI_1 _ | with_reducible exact nI_add _ _ | assumption) (by omega) ?_
        refine v_istore_3 G (decAt dd_MD_isSaid 12 rfl) (by decide) rfl ?_
        refine v_iload_n G (decAt dd_MD_isSaid 13 rfl) rfl ?_
        refine v_if_eq G 40 (decAt dd_MD_isSaid 14 rfl) (by decide) (fun c20 => ?_) (fun c20 => ?_)
        · skip
          refine v_iconst G 0 (decAt dd_MD_isSaid 24 rfl) (by decide) ?_
          refine v_istore_1 G (decAt dd_MD_isSaid 25 rfl) (by decide) rfl ?_
          refine J42 false ?_
          refine ⟨fun z => (by cases z), fun z => ?_⟩
          exfalso
          first
            | exact absurd (hb.mpr z.1) (fun q => by rw [bI_t q] at c20; exact absurd c20 (by decide))
            | exact absurd (show good1 (A 29 i) (A 30 i) = true from z.2) (fun q => by rw [bI_t q] at c33; exact absurd c33 (by decide))
        · skip
          refine v_iload_n G (decAt dd_MD_isSaid 15 rfl) rfl ?_
          refine v_aload_n G (decAt dd_MD_isSaid 16 rfl) rfl ?_
          refine v_geta G (decAt dd_MD_isSaid 17 rfl) f_MD_13 ?_
          refine v_iload_n G (decAt dd_MD_isSaid 18 rfl) rfl ?_
          refine v_iald G 30 _ (decAt dd_MD_isSaid 19 rfl) (by decide) rfl (by first | with_reducible rfl | with_reducible exact nI_1 _ | with_reducible exact nI_add _ _ | assumption) (by omega) ?_
          refine p_callSi G (XB_Sy G) (As := [.int (A 29 i), .int (A 30 i)]) (decAt dd_MD_isSaid 20 rfl) k_MD_43 (c_MD_isGood l hE) rfl rfl (Nat.le_of_ble_eq_true rfl) (by decide) rfl rfl (by decide) ?_
          refine v_if_eq G 40 (decAt dd_MD_isSaid 21 rfl) (by decide) (fun c33 => ?_) (fun c33 => ?_)
          · skip
            refine v_iconst G 0 (decAt dd_MD_isSaid 24 rfl) (by decide) ?_
            refine v_istore_1 G (decAt dd_MD_isSaid 25 rfl) (by decide) rfl ?_
            refine J42 false ?_
            refine ⟨fun z => (by cases z), fun z => ?_⟩
            exfalso
            first
              | exact absurd (hb.mpr z.1) (fun q => by rw [bI_t q] at c20; exact absurd c20 (by decide))
              | exact absurd (show good1 (A 29 i) (A 30 i) = true from z.2) (fun q => by rw [bI_t q] at c33; exact absurd c33 (by decide))
          · skip
            refine v_iconst G 1 (decAt dd_MD_isSaid 22 rfl) (by decide) ?_
            refine v_goto G 41 (decAt dd_MD_isSaid 23 rfl) (by decide) ?_
            refine v_istore_1 G (decAt dd_MD_isSaid 25 rfl) (by decide) rfl ?_
            refine J42 true ?_
            have hbt : b = true := eq_true_of_ne_false (fun z => c20 (bI_f z))
            exact ⟨fun _ => ⟨hb.mp hbt, eq_true_of_ne_false (fun z => c33 (bI_f z))⟩, fun _ => rfl⟩
  refine v_iconst G 1 (decAt dd_MD_isSaid 0 rfl) (by decide) ?_
  refine v_istore_1 G (decAt dd_MD_isSaid 1 rfl) (by decide) rfl ?_
  refine v_iconst G 0 (decAt dd_MD_isSaid 2 rfl) (by decide) ?_
  refine v_istore_2 G (decAt dd_MD_isSaid 3 rfl) (by decide) rfl ?_
  exact J sz 0 true _ (by omega) ⟨fun _ j hj => absurd hj (by omega), fun _ => rfl⟩
