/-! the class: whether its code is right: labels -/
abbrev RN (n : Nat → Nat) : Prop := n 0 = 400 ∧ n 1 = 400 ∧ n 2 = 100 ∧ n 3 = 400 ∧ n 4 = 802 ∧ n 5 = 802 ∧ n 6 = 400 ∧ n 7 = 401 ∧ n 8 = 400 ∧ n 9 = 80
theorem good1_out {x a : Int32} (h : ¬ ∃ m : Nat, m ≤ 20 ∧ x = nI m) : good1 x a = false := by
  cases hq : good1 x a with
  | false => rfl
  | true => obtain ⟨m, h1, h2, -⟩ := good1_ok hq; exact absurd ⟨m, h1, h2⟩ h
/-- an instruction is good, what is behind it too -/
def insOK (num arg : Nat → Int32) (sz j : Nat) : Prop := LabK num arg sz j 0 ∧ LabK num arg sz j 3
theorem plcG_spec {num arg : Nat → Int32} {lab : Int32} : ∀ (d i : Nat), (∃ j, i ≤ j ∧ j < i + d ∧ num j = 13 ∧ arg j = lab ∧ (∀ q, i ≤ q → q < j → ¬ (num q = 13 ∧ arg q = lab)) ∧ plcG num arg lab d i = nI j) ∨ ((∀ q, i ≤ q → q < i + d → ¬ (num q = 13 ∧ arg q = lab)) ∧ plcG num arg lab d i = -1)
  | 0, i => Or.inr ⟨fun q h1 h2 => absurd h2 (by omega), rfl⟩
  | d + 1, i => by
    by_cases hc : num i = 13 ∧ arg i = lab
    · exact Or.inl ⟨i, Nat.le_refl _, by omega, hc.1, hc.2, fun q h1 h2 => absurd h2 (by omega), by rw [plcG, if_pos hc]⟩
    · rcases plcG_spec (num := num) (arg := arg) (lab := lab) d (i + 1) with ⟨j, h1, h2, h3, h4, h5, h6⟩ | ⟨h1, h2⟩
      · refine Or.inl ⟨j, by omega, by omega, h3, h4, fun q q1 q2 => ?_, by rw [plcG, if_neg hc]; exact h6⟩
        by_cases e : q = i
        · subst e; exact hc
        · exact h5 q (by omega) q2
      · refine Or.inr ⟨fun q q1 q2 => ?_, by rw [plcG, if_neg hc]; exact h2⟩
        by_cases e : q = i
        · subst e; exact hc
        · exact h1 q (by omega) (by omega)
theorem plcI_spec {num arg : Nat → Int32} (sz : Nat) (lab : Int32) : (∃ j, j < sz ∧ num j = 13 ∧ arg j = lab ∧ (∀ q, q < j → ¬ (num q = 13 ∧ arg q = lab)) ∧ plcI num arg sz lab = nI j) ∨ ((∀ q, q < sz → ¬ (num q = 13 ∧ arg q = lab)) ∧ plcI num arg sz lab = -1) := by
  rcases plcG_spec (num := num) (arg := arg) (lab := lab) sz 0 with ⟨j, h1, h2, h3, h4, h5, h6⟩ | ⟨h1, h2⟩
  · exact Or.inl ⟨j, by omega, h3, h4, fun q hq => h5 q (by omega) hq, h6⟩
  · exact Or.inr ⟨fun q hq => h1 q (by omega) (by omega), h2⟩
/-- where the labels of the first k instructions are -/
def LaI (num arg la : Nat → Int32) (k : Nat) : Prop := ∀ lab, lab < 100 → (la lab = -1 ∧ ∀ j, j < k → ¬ (num j = 13 ∧ arg j = nI lab)) ∨ ∃ j, j < k ∧ la lab = nI j ∧ num j = 13 ∧ arg j = nI lab ∧ ∀ q, q < k → num q = 13 → arg q = nI lab → q = j
theorem LaI.plc {num arg la : Nat → Int32} {sz : Nat} (h : LaI num arg la sz) {lab : Nat} (hl : lab < 100) : la lab = plcI num arg sz (nI lab) := by
  rcases h lab hl with ⟨h1, h2⟩ | ⟨j, h1, h2, h3, h4, h5⟩
  · rcases plcI_spec (num := num) (arg := arg) sz (nI lab) with ⟨j, q1, q2, q3, -, -⟩ | ⟨-, q2⟩
    · exact absurd ⟨q2, q3⟩ (h2 j q1)
    · rw [h1, q2]
  · rcases plcI_spec (num := num) (arg := arg) sz (nI lab) with ⟨j', q1, q2, q3, -, q5⟩ | ⟨q1, -⟩
    · rw [h2, q5, h5 j' q1 q2 q3]
    · exact absurd ⟨h3, h4⟩ (q1 j h1)
theorem m1_lt : (-1 : Int32) < 0 := by decide

theorem lab_of13 {x a : Int32} (h : good1 x a = true) (hx : x = 13) : ∃ lb : Nat, lb < 100 ∧ a = nI lb := by
  subst hx
  have h : decide ((0 : Int32) ≤ a ∧ a ≤ 99) = true := h
  rw [show decide ((0 : Int32) ≤ a ∧ a ≤ 99) = inR a 100 from dec_in (m := 99) (by omega)] at h
  obtain ⟨j, h1, h2, -⟩ := inR_nI h
  exact ⟨j, h1, h2⟩
theorem lab_of {x a : Int32} (h : good1 x a = true) (h1 : ¬ x < 10) (h2 : ¬ 12 < x) : ∃ lb : Nat, lb < 100 ∧ a = nI lb := by
  obtain ⟨m, hm, rfl, ha⟩ := good1_ok h
  have e1 : ¬ m < 10 := fun z => h1 (nI_lt (a := m) (b := 10) z (by omega))
  have e2 : ¬ 12 < m := fun z => h2 (nI_lt (a := 12) (b := m) z (by omega))
  have ha : inR a 100 = true := by
    rcases (show m = 10 ∨ m = 11 ∨ m = 12 by omega) with rfl | rfl | rfl <;> exact ha
  obtain ⟨j, q1, q2, -⟩ := inR_nI ha
  exact ⟨j, q1, q2⟩
theorem LaI.k1 {num arg la : Nat → Int32} {sz j : Nat} (h : LaI num arg la sz) (hg : good1 (num j) (arg j) = true) (hj : j < sz) : LabK num arg sz j 1 := by
  by_cases h13 : num j = 13
  · right
    obtain ⟨lb, h1, h2⟩ := lab_of13 hg h13
    rcases h lb h1 with ⟨-, q⟩ | ⟨j', q1, q2, q3, q4, q5⟩
    · exact absurd ⟨h13, h2⟩ (q j hj)
    · rw [h2, ← h.plc h1, q2, q5 j hj h13 h2]
  · exact Or.inl h13
theorem LaI.skip {num arg la : Nat → Int32} {k : Nat} (h : LaI num arg la k) (hn : ¬ num k = 13) : LaI num arg la (k + 1) := by
  intro lab hl
  rcases h lab hl with ⟨h1, h2⟩ | ⟨j, h1, h2, h3, h4, h5⟩
  · exact Or.inl ⟨h1, lt_s h2 (fun z => hn z.1)⟩
  · refine Or.inr ⟨j, by omega, h2, h3, h4, fun q hq q1 q2 => ?_⟩
    by_cases e : q = k
    · subst e; exact absurd q1 hn
    · exact h5 q (by omega) q1 q2
theorem LaI.put {num arg la : Nat → Int32} {k lb : Nat} (h : LaI num arg la k) (hn : num k = 13) (ha : arg k = nI lb) (hlb : lb < 100) (hneg : la lb < 0) (hk : k < 2147483648) : LaI num arg (va_up la lb (nI k)) (k + 1) := by
  intro lab hl
  by_cases e : lab = lb
  · subst e
    rw [va_up_self]
    refine Or.inr ⟨k, by omega, rfl, hn, ha, fun q hq q1 q2 => ?_⟩
    by_cases eq : q = k
    · exact eq
    · rcases h lab hl with ⟨-, h2⟩ | ⟨j, h1, h2, -⟩
      · exact absurd ⟨q1, q2⟩ (h2 q (by omega))
      · rw [h2] at hneg; exact absurd hneg (nI_pos (by omega))
  · rw [va_up_ne _ _ e]
    have hne : ¬ arg k = nI lab := fun z => e ((nI_eq (by omega) (by omega)).mp (z.symm.trans ha))
    rcases h lab hl with ⟨h1, h2⟩ | ⟨j, h1, h2, h3, h4, h5⟩
    · exact Or.inl ⟨h1, lt_s h2 (fun z => hne z.2)⟩
    · refine Or.inr ⟨j, by omega, h2, h3, h4, fun q hq q1 q2 => ?_⟩
      by_cases eq : q = k
      · subst eq; exact absurd q2 hne
      · exact h5 q (by omega) q1 q2

set_option maxHeartbeats 4000000 in
theorem c_RC_isInstruction (l : Launch) {E : Bs} (hE : Hb E) {ρ : Nat → Nat} {g A : Nat → Nat → Int32} {n : Nat → Nat} {tx : Value} {k sz : Nat} (hn : RN n) (hs : g 0 2 = nI sz) (hsz : sz ≤ 400) (hk : k < sz) : CW l E DC AC y_RC_isInstruction b_RC_isInstruction 4 (some .boolean) ({ frames := 0, cells := 0, slots := 0, locals := 0 } : Room) [.ref (E.o 0), .int (nI k)] ρ g A n tx (fun r ρ' g' A' n' tx' => ∃ b : Bool, r = some (.int (bI b)) ∧ (b = true ↔ insOK (A 0) (A 1) sz k) ∧ ρ' = ρ ∧ g' = g ∧ A' = A ∧ n' = n ∧ tx' = tx) := by
  obtain ⟨hn0, hn1, hn2, hn3, hn4, hn5, hn6, hn7, hn8, hn9⟩ := hn
  refine CW.start [some (.ref (E.o 0)), some (.int (nI k)), none, none] hE (by decide) (Nat.le_of_ble_eq_true rfl) rfl ?_
  intro p e s m args below meth c G
  generalize hNe : A 0 k = N
  generalize hAe : A 1 k = a
  by_cases hm : ∃ m : Nat, m ≤ 20 ∧ N = nI m
  · obtain ⟨m9, hm9, rfl⟩ := hm
    rcases (show m9 = 0 ∨ m9 = 1 ∨ m9 = 2 ∨ m9 = 3 ∨ m9 = 4 ∨ m9 = 5 ∨ m9 = 6 ∨ m9 = 7 ∨ m9 = 8 ∨ m9 = 9 ∨ m9 = 10 ∨ m9 = 11 ∨ m9 = 12 ∨ m9 = 13 ∨ m9 = 14 ∨ m9 = 15 ∨ m9 = 16 ∨ m9 = 17 ∨ m9 = 18 ∨ m9 = 19 ∨ m9 = 20 by omega) with rfl | rfl | rfl | rfl | rfl | rfl | rfl | rfl | rfl | rfl | rfl | rfl | rfl | rfl | rfl | rfl | rfl | rfl | rfl | rfl | rfl
    · skip
      refine v_aload_n G (decAt dd_RC_isInstruction 0 rfl) rfl ?_
      refine v_geta G (decAt dd_RC_isInstruction 1 rfl) f_RC_13 ?_
      refine v_iload_n G (decAt dd_RC_isInstruction 2 rfl) rfl ?_
      refine v_iald G 0 _ (decAt dd_RC_isInstruction 3 rfl) (by decide) rfl (by first | with_reducible rfl | with_reducible exact nI_1 _ | with_reducible exact nI_add _ _ | assumption) (by omega) ?_
      refine v_ri (y := nI 0) hNe ?_
      refine v_istore_2 G (decAt dd_RC_isInstruction 4 rfl) (by decide) rfl ?_
      refine v_aload_n G (decAt dd_RC_isInstruction 5 rfl) rfl ?_
      refine v_geta G (decAt dd_RC_isInstruction 6 rfl) f_RC_17 ?_
      refine v_iload_n G (decAt dd_RC_isInstruction 7 rfl) rfl ?_
      refine v_iald G 1 _ (decAt dd_RC_isInstruction 8 rfl) (by decide) rfl (by first | with_reducible rfl | with_reducible exact nI_1 _ | with_reducible exact nI_add _ _ | assumption) (by omega) ?_
      refine v_ri (y := a) hAe ?_
      refine v_istore_3 G (decAt dd_RC_isInstruction 9 rfl) (by decide) rfl ?_
      refine v_iload_n G (decAt dd_RC_isInstruction 10 rfl) rfl ?_
      refine v_if_lt G 24 (decAt dd_RC_isInstruction 11 rfl) (by decide) (fun c15 => absurd c15 (by decide)) (fun _ => ?_)
      refine v_iload_n G (decAt dd_RC_isInstruction 12 rfl) rfl ?_
      refine v_bipush G 20 (decAt dd_RC_isInstruction 13 rfl) (by decide) ?_
      refine v_icmp_le G 26 (decAt dd_RC_isInstruction 14 rfl) (by decide) (fun _ => ?_) (fun c21 => absurd c21 (by decide))
      refine v_iload_n G (decAt dd_RC_isInstruction 17 rfl) rfl ?_
      refine v_iconst G 1 (decAt dd_RC_isInstruction 18 rfl) (by decide) ?_
      refine v_icmp_eq G 36 (decAt dd_RC_isInstruction 19 rfl) (by decide) (fun c28 => absurd c28 (by decide)) (fun _ => ?_)
      refine v_iload_n G (decAt dd_RC_isInstruction 20 rfl) rfl ?_
      refine v_iconst G 2 (decAt dd_RC_isInstruction 21 rfl) (by decide) ?_
      refine v_icmp_ne G 52 (decAt dd_RC_isInstruction 22 rfl) (by decide) (fun _ => ?_) (fun c33 => absurd c33 (by decide))
      refine v_iload_n G (decAt dd_RC_isInstruction 32 rfl) rfl ?_
      refine v_bipush G 7 (decAt dd_RC_isInstruction 33 rfl) (by decide) ?_
      refine v_icmp_ne G 74 (decAt dd_RC_isInstruction 34 rfl) (by decide) (fun _ => ?_) (fun c55 => absurd c55 (by decide))
      refine v_iload_n G (decAt dd_RC_isInstruction 44 rfl) rfl ?_
      refine v_bipush G 8 (decAt dd_RC_isInstruction 45 rfl) (by decide) ?_
      refine v_icmp_eq G 86 (decAt dd_RC_isInstruction 46 rfl) (by decide) (fun c77 => absurd c77 (by decide)) (fun _ => ?_)
      refine v_iload_n G (decAt dd_RC_isInstruction 47 rfl) rfl ?_
      refine v_bipush G 9 (decAt dd_RC_isInstruction 48 rfl) (by decide) ?_
      refine v_icmp_ne G 101 (decAt dd_RC_isInstruction 49 rfl) (by decide) (fun _ => ?_) (fun c83 => absurd c83 (by decide))
      refine v_iload_n G (decAt dd_RC_isInstruction 59 rfl) rfl ?_
      refine v_bipush G 10 (decAt dd_RC_isInstruction 60 rfl) (by decide) ?_
      refine v_icmp_lt G 129 (decAt dd_RC_isInstruction 61 rfl) (by decide) (fun _ => ?_) (fun c104 => absurd c104 (by decide))
      refine v_iload_n G (decAt dd_RC_isInstruction 74 rfl) rfl ?_
      refine v_bipush G 18 (decAt dd_RC_isInstruction 75 rfl) (by decide) ?_
      refine v_icmp_ne G 158 (decAt dd_RC_isInstruction 76 rfl) (by decide) (fun _ => ?_) (fun c132 => absurd c132 (by decide))
      refine v_iconst G 1 (decAt dd_RC_isInstruction 91 rfl) (by decide) ?_
      refine v_goto G 163 (decAt dd_RC_isInstruction 92 rfl) (by decide) ?_
      exact v_zret G (decAt dd_RC_isInstruction 94 rfl) rfl rfl ⟨true, rfl, ⟨fun _ => ⟨by show good1 (A 0 k) (A 1 k) = true; rw [hNe, hAe]; exact decide_eq_true (show (0 : Int32) ≤ nI 0 ∧ nI 0 ≤ 20 from by decide), Or.inl (by rw [hNe]; decide)⟩, fun _ => rfl⟩, rfl, rfl, rfl, rfl, rfl⟩
    · skip
      refine v_aload_n G (decAt dd_RC_isInstruction 0 rfl) rfl ?_
      refine v_geta G (decAt dd_RC_isInstruction 1 rfl) f_RC_13 ?_
      refine v_iload_n G (decAt dd_RC_isInstruction 2 rfl) rfl ?_
      refine v_iald G 0 _ (decAt dd_RC_isInstruction 3 rfl) (by decide) rfl (by first | with_reducible rfl | with_reducible exact nI_1 _ | with_reducible exact nI_add _ _ | assumption) (by omega) ?_
      refine v_ri (y := nI 1) hNe ?_
      refine v_istore_2 G (decAt dd_RC_isInstruction 4 rfl) (by decide) rfl ?_
      refine v_aload_n G (decAt dd_RC_isInstruction 5 rfl) rfl ?_
      refine v_geta G (decAt dd_RC_isInstruction 6 rfl) f_RC_17 ?_
      refine v_iload_n G (decAt dd_RC_isInstruction 7 rfl) rfl ?_
      refine v_iald G 1 _ (decAt dd_RC_isInstruction 8 rfl) (by decide) rfl (by first | with_reducible rfl | with_reducible exact nI_1 _ | with_reducible exact nI_add _ _ | assumption) (by omega) ?_
      refine v_ri (y := a) hAe ?_
      refine v_istore_3 G (decAt dd_RC_isInstruction 9 rfl) (by decide) rfl ?_
      refine v_iload_n G (decAt dd_RC_isInstruction 10 rfl) rfl ?_
      refine v_if_lt G 24 (decAt dd_RC_isInstruction 11 rfl) (by decide) (fun c15 => absurd c15 (by decide)) (fun _ => ?_)
      refine v_iload_n G (decAt dd_RC_isInstruction 12 rfl) rfl ?_
      refine v_bipush G 20 (decAt dd_RC_isInstruction 13 rfl) (by decide) ?_
      refine v_icmp_le G 26 (decAt dd_RC_isInstruction 14 rfl) (by decide) (fun _ => ?_) (fun c21 => absurd c21 (by decide))
      refine v_iload_n G (decAt dd_RC_isInstruction 17 rfl) rfl ?_
      refine v_iconst G 1 (decAt dd_RC_isInstruction 18 rfl) (by decide) ?_
      refine v_icmp_eq G 36 (decAt dd_RC_isInstruction 19 rfl) (by decide) (fun _ => ?_) (fun c28 => absurd c28 (by decide))
      refine v_iload_n G (decAt dd_RC_isInstruction 23 rfl) rfl ?_
      refine v_if_lt G 50 (decAt dd_RC_isInstruction 24 rfl) (by decide) (fun c37 => ?_) (fun c37 => ?_)
      · skip
        refine v_iconst G 0 (decAt dd_RC_isInstruction 30 rfl) (by decide) ?_
        exact v_zret G (decAt dd_RC_isInstruction 31 rfl) rfl rfl ⟨false, rfl, ⟨fun q => (by cases q), fun q => by
          have q1 : good1 (A 0 k) (A 1 k) = true := q.1
          rw [hNe, hAe] at q1
          have q2 : (0 : Int32) ≤ a ∧ a ≤ 15 := of_decide_eq_true q1
          first | exact absurd c37 (Int32.not_lt.mpr q2.1) | exact absurd q2.2 (fun h2 => by have h := c43; rw [Int32.le_iff_toInt_le] at h h2; have h : (16 : Int) ≤ a.toInt := h; have h2 : a.toInt ≤ (15 : Int) := h2; omega)⟩, rfl, rfl, rfl, rfl, rfl⟩
      · skip
        refine v_iload_n G (decAt dd_RC_isInstruction 25 rfl) rfl ?_
        refine v_bipush G 16 (decAt dd_RC_isInstruction 26 rfl) (by decide) ?_
        refine v_icmp_ge G 50 (decAt dd_RC_isInstruction 27 rfl) (by decide) (fun c43 => ?_) (fun c43 => ?_)
        · skip
          refine v_iconst G 0 (decAt dd_RC_isInstruction 30 rfl) (by decide) ?_
          exact v_zret G (decAt dd_RC_isInstruction 31 rfl) rfl rfl ⟨false, rfl, ⟨fun q => (by cases q), fun q => by
            have q1 : good1 (A 0 k) (A 1 k) = true := q.1
            rw [hNe, hAe] at q1
            have q2 : (0 : Int32) ≤ a ∧ a ≤ 15 := of_decide_eq_true q1
            first | exact absurd c37 (Int32.not_lt.mpr q2.1) | exact absurd q2.2 (fun h2 => by have h := c43; rw [Int32.le_iff_toInt_le] at h h2; have h : (16 : Int) ≤ a.toInt := h; have h2 : a.toInt ≤ (15 : Int) := h2; omega)⟩, rfl, rfl, rfl, rfl, rfl⟩
        · skip
          refine v_iconst G 1 (decAt dd_RC_isInstruction 28 rfl) (by decide) ?_
          refine v_goto G 51 (decAt dd_RC_isInstruction 29 rfl) (by decide) ?_
          exact v_zret G (decAt dd_RC_isInstruction 31 rfl) rfl rfl ⟨true, rfl, ⟨fun _ => ⟨by show good1 (A 0 k) (A 1 k) = true; rw [hNe, hAe]; exact decide_eq_true ⟨i32_in c37, (by have h := c43; rw [Int32.le_iff_toInt_le] at h ⊢; have h2 : ¬ (16 : Int) ≤ a.toInt := h; show a.toInt ≤ (15 : Int); omega)⟩, Or.inl (by rw [hNe]; decide)⟩, fun _ => rfl⟩, rfl, rfl, rfl, rfl, rfl⟩
    · skip
      refine v_aload_n G (decAt dd_RC_isInstruction 0 rfl) rfl ?_
      refine v_geta G (decAt dd_RC_isInstruction 1 rfl) f_RC_13 ?_
      refine v_iload_n G (decAt dd_RC_isInstruction 2 rfl) rfl ?_
      refine v_iald G 0 _ (decAt dd_RC_isInstruction 3 rfl) (by decide) rfl (by first | with_reducible rfl | with_reducible exact nI_1 _ | with_reducible exact nI_add _ _ | assumption) (by omega) ?_
      refine v_ri (y := nI 2) hNe ?_
      refine v_istore_2 G (decAt dd_RC_isInstruction 4 rfl) (by decide) rfl ?_
      refine v_aload_n G (decAt dd_RC_isInstruction 5 rfl) rfl ?_
      refine v_geta G (decAt dd_RC_isInstruction 6 rfl) f_RC_17 ?_
      refine v_iload_n G (decAt dd_RC_isInstruction 7 rfl) rfl ?_
      refine v_iald G 1 _ (decAt dd_RC_isInstruction 8 rfl) (by decide) rfl (by first | with_reducible rfl | with_reducible exact nI_1 _ | with_reducible exact nI_add _ _ | assumption) (by omega) ?_
      refine v_ri (y := a) hAe ?_
      refine v_istore_3 G (decAt dd_RC_isInstruction 9 rfl) (by decide) rfl ?_
      refine v_iload_n G (decAt dd_RC_isInstruction 10 rfl) rfl ?_
      refine v_if_lt G 24 (decAt dd_RC_isInstruction 11 rfl) (by decide) (fun c15 => absurd c15 (by decide)) (fun _ => ?_)
      refine v_iload_n G (decAt dd_RC_isInstruction 12 rfl) rfl ?_
      refine v_bipush G 20 (decAt dd_RC_isInstruction 13 rfl) (by decide) ?_
      refine v_icmp_le G 26 (decAt dd_RC_isInstruction 14 rfl) (by decide) (fun _ => ?_) (fun c21 => absurd c21 (by decide))
      refine v_iload_n G (decAt dd_RC_isInstruction 17 rfl) rfl ?_
      refine v_iconst G 1 (decAt dd_RC_isInstruction 18 rfl) (by decide) ?_
      refine v_icmp_eq G 36 (decAt dd_RC_isInstruction 19 rfl) (by decide) (fun c28 => absurd c28 (by decide)) (fun _ => ?_)
      refine v_iload_n G (decAt dd_RC_isInstruction 20 rfl) rfl ?_
      refine v_iconst G 2 (decAt dd_RC_isInstruction 21 rfl) (by decide) ?_
      refine v_icmp_ne G 52 (decAt dd_RC_isInstruction 22 rfl) (by decide) (fun c33 => absurd c33 (by decide)) (fun _ => ?_)
      refine v_iload_n G (decAt dd_RC_isInstruction 23 rfl) rfl ?_
      refine v_if_lt G 50 (decAt dd_RC_isInstruction 24 rfl) (by decide) (fun c37 => ?_) (fun c37 => ?_)
      · skip
        refine v_iconst G 0 (decAt dd_RC_isInstruction 30 rfl) (by decide) ?_
        exact v_zret G (decAt dd_RC_isInstruction 31 rfl) rfl rfl ⟨false, rfl, ⟨fun q => (by cases q), fun q => by
          have q1 : good1 (A 0 k) (A 1 k) = true := q.1
          rw [hNe, hAe] at q1
          have q2 : (0 : Int32) ≤ a ∧ a ≤ 15 := of_decide_eq_true q1
          first | exact absurd c37 (Int32.not_lt.mpr q2.1) | exact absurd q2.2 (fun h2 => by have h := c43; rw [Int32.le_iff_toInt_le] at h h2; have h : (16 : Int) ≤ a.toInt := h; have h2 : a.toInt ≤ (15 : Int) := h2; omega)⟩, rfl, rfl, rfl, rfl, rfl⟩
      · skip
        refine v_iload_n G (decAt dd_RC_isInstruction 25 rfl) rfl ?_
        refine v_bipush G 16 (decAt dd_RC_isInstruction 26 rfl) (by decide) ?_
        refine v_icmp_ge G 50 (decAt dd_RC_isInstruction 27 rfl) (by decide) (fun c43 => ?_) (fun c43 => ?_)
        · skip
          refine v_iconst G 0 (decAt dd_RC_isInstruction 30 rfl) (by decide) ?_
          exact v_zret G (decAt dd_RC_isInstruction 31 rfl) rfl rfl ⟨false, rfl, ⟨fun q => (by cases q), fun q => by
            have q1 : good1 (A 0 k) (A 1 k) = true := q.1
            rw [hNe, hAe] at q1
            have q2 : (0 : Int32) ≤ a ∧ a ≤ 15 := of_decide_eq_true q1
            first | exact absurd c37 (Int32.not_lt.mpr q2.1) | exact absurd q2.2 (fun h2 => by have h := c43; rw [Int32.le_iff_toInt_le] at h h2; have h : (16 : Int) ≤ a.toInt := h; have h2 : a.toInt ≤ (15 : Int) := h2; omega)⟩, rfl, rfl, rfl, rfl, rfl⟩
        · skip
          refine v_iconst G 1 (decAt dd_RC_isInstruction 28 rfl) (by decide) ?_
          refine v_goto G 51 (decAt dd_RC_isInstruction 29 rfl) (by decide) ?_
          exact v_zret G (decAt dd_RC_isInstruction 31 rfl) rfl rfl ⟨true, rfl, ⟨fun _ => ⟨by show good1 (A 0 k) (A 1 k) = true; rw [hNe, hAe]; exact decide_eq_true ⟨i32_in c37, (by have h := c43; rw [Int32.le_iff_toInt_le] at h ⊢; have h2 : ¬ (16 : Int) ≤ a.toInt := h; show a.toInt ≤ (15 : Int); omega)⟩, Or.inl (by rw [hNe]; decide)⟩, fun _ => rfl⟩, rfl, rfl, rfl, rfl, rfl⟩
    · skip
      refine v_aload_n G (decAt dd_RC_isInstruction 0 rfl) rfl ?_
      refine v_geta G (decAt dd_RC_isInstruction 1 rfl) f_RC_13 ?_
      refine v_iload_n G (decAt dd_RC_isInstruction 2 rfl) rfl ?_
      refine v_iald G 0 _ (decAt dd_RC_isInstruction 3 rfl) (by decide) rfl (by first | with_reducible rfl | with_reducible exact nI_1 _ | with_reducible exact nI_add _ _ | assumption) (by omega) ?_
      refine v_ri (y := nI 3) hNe ?_
      refine v_istore_2 G (decAt dd_RC_isInstruction 4 rfl) (by decide) rfl ?_
      refine v_aload_n G (decAt dd_RC_isInstruction 5 rfl) rfl ?_
      refine v_geta G (decAt dd_RC_isInstruction 6 rfl) f_RC_17 ?_
      refine v_iload_n G (decAt dd_RC_isInstruction 7 rfl) rfl ?_
      refine v_iald G 1 _ (decAt dd_RC_isInstruction 8 rfl) (by decide) rfl (by first | with_reducible rfl | with_reducible exact nI_1 _ | with_reducible exact nI_add _ _ | assumption) (by omega) ?_
      refine v_ri (y := a) hAe ?_
      refine v_istore_3 G (decAt dd_RC_isInstruction 9 rfl) (by decide) rfl ?_
      refine v_iload_n G (decAt dd_RC_isInstruction 10 rfl) rfl ?_
      refine v_if_lt G 24 (decAt dd_RC_isInstruction 11 rfl) (by decide) (fun c15 => absurd c15 (by decide)) (fun _ => ?_)
      refine v_iload_n G (decAt dd_RC_isInstruction 12 rfl) rfl ?_
      refine v_bipush G 20 (decAt dd_RC_isInstruction 13 rfl) (by decide) ?_
      refine v_icmp_le G 26 (decAt dd_RC_isInstruction 14 rfl) (by decide) (fun _ => ?_) (fun c21 => absurd c21 (by decide))
      refine v_iload_n G (decAt dd_RC_isInstruction 17 rfl) rfl ?_
      refine v_iconst G 1 (decAt dd_RC_isInstruction 18 rfl) (by decide) ?_
      refine v_icmp_eq G 36 (decAt dd_RC_isInstruction 19 rfl) (by decide) (fun c28 => absurd c28 (by decide)) (fun _ => ?_)
      refine v_iload_n G (decAt dd_RC_isInstruction 20 rfl) rfl ?_
      refine v_iconst G 2 (decAt dd_RC_isInstruction 21 rfl) (by decide) ?_
      refine v_icmp_ne G 52 (decAt dd_RC_isInstruction 22 rfl) (by decide) (fun _ => ?_) (fun c33 => absurd c33 (by decide))
      refine v_iload_n G (decAt dd_RC_isInstruction 32 rfl) rfl ?_
      refine v_bipush G 7 (decAt dd_RC_isInstruction 33 rfl) (by decide) ?_
      refine v_icmp_ne G 74 (decAt dd_RC_isInstruction 34 rfl) (by decide) (fun _ => ?_) (fun c55 => absurd c55 (by decide))
      refine v_iload_n G (decAt dd_RC_isInstruction 44 rfl) rfl ?_
      refine v_bipush G 8 (decAt dd_RC_isInstruction 45 rfl) (by decide) ?_
      refine v_icmp_eq G 86 (decAt dd_RC_isInstruction 46 rfl) (by decide) (fun c77 => absurd c77 (by decide)) (fun _ => ?_)
      refine v_iload_n G (decAt dd_RC_isInstruction 47 rfl) rfl ?_
      refine v_bipush G 9 (decAt dd_RC_isInstruction 48 rfl) (by decide) ?_
      refine v_icmp_ne G 101 (decAt dd_RC_isInstruction 49 rfl) (by decide) (fun _ => ?_) (fun c83 => absurd c83 (by decide))
      refine v_iload_n G (decAt dd_RC_isInstruction 59 rfl) rfl ?_
      refine v_bipush G 10 (decAt dd_RC_isInstruction 60 rfl) (by decide) ?_
      refine v_icmp_lt G 129 (decAt dd_RC_isInstruction 61 rfl) (by decide) (fun _ => ?_) (fun c104 => absurd c104 (by decide))
      refine v_iload_n G (decAt dd_RC_isInstruction 74 rfl) rfl ?_
      refine v_bipush G 18 (decAt dd_RC_isInstruction 75 rfl) (by decide) ?_
      refine v_icmp_ne G 158 (decAt dd_RC_isInstruction 76 rfl) (by decide) (fun _ => ?_) (fun c132 => absurd c132 (by decide))
      refine v_iconst G 1 (decAt dd_RC_isInstruction 91 rfl) (by decide) ?_
      refine v_goto G 163 (decAt dd_RC_isInstruction 92 rfl) (by decide) ?_
      exact v_zret G (decAt dd_RC_isInstruction 94 rfl) rfl rfl ⟨true, rfl, ⟨fun _ => ⟨by show good1 (A 0 k) (A 1 k) = true; rw [hNe, hAe]; exact decide_eq_true (show (0 : Int32) ≤ nI 3 ∧ nI 3 ≤ 20 from by decide), Or.inl (by rw [hNe]; decide)⟩, fun _ => rfl⟩, rfl, rfl, rfl, rfl, rfl⟩
    · skip
      refine v_aload_n G (decAt dd_RC_isInstruction 0 rfl) rfl ?_
      refine v_geta G (decAt dd_RC_isInstruction 1 rfl) f_RC_13 ?_
      refine v_iload_n G (decAt dd_RC_isInstruction 2 rfl) rfl ?_
      refine v_iald G 0 _ (decAt dd_RC_isInstruction 3 rfl) (by decide) rfl (by first | with_reducible rfl | with_reducible exact nI_1 _ | with_reducible exact nI_add _ _ | assumption) (by omega) ?_
      refine v_ri (y := nI 4) hNe ?_
      refine v_istore_2 G (decAt dd_RC_isInstruction 4 rfl) (by decide) rfl ?_
      refine v_aload_n G (decAt dd_RC_isInstruction 5 rfl) rfl ?_
      refine v_geta G (decAt dd_RC_isInstruction 6 rfl) f_RC_17 ?_
      refine v_iload_n G (decAt dd_RC_isInstruction 7 rfl) rfl ?_
      refine v_iald G 1 _ (decAt dd_RC_isInstruction 8 rfl) (by decide) rfl (by first | with_reducible rfl | with_reducible exact nI_1 _ | with_reducible exact nI_add _ _ | assumption) (by omega) ?_
      refine v_ri (y := a) hAe ?_
      refine v_istore_3 G (decAt dd_RC_isInstruction 9 rfl) (by decide) rfl ?_
      refine v_iload_n G (decAt dd_RC_isInstruction 10 rfl) rfl ?_
      refine v_if_lt G 24 (decAt dd_RC_isInstruction 11 rfl) (by decide) (fun c15 => absurd c15 (by decide)) (fun _ => ?_)
      refine v_iload_n G (decAt dd_RC_isInstruction 12 rfl) rfl ?_
      refine v_bipush G 20 (decAt dd_RC_isInstruction 13 rfl) (by decide) ?_
      refine v_icmp_le G 26 (decAt dd_RC_isInstruction 14 rfl) (by decide) (fun _ => ?_) (fun c21 => absurd c21 (by decide))
      refine v_iload_n G (decAt dd_RC_isInstruction 17 rfl) rfl ?_
      refine v_iconst G 1 (decAt dd_RC_isInstruction 18 rfl) (by decide) ?_
      refine v_icmp_eq G 36 (decAt dd_RC_isInstruction 19 rfl) (by decide) (fun c28 => absurd c28 (by decide)) (fun _ => ?_)
      refine v_iload_n G (decAt dd_RC_isInstruction 20 rfl) rfl ?_
      refine v_iconst G 2 (decAt dd_RC_isInstruction 21 rfl) (by decide) ?_
      refine v_icmp_ne G 52 (decAt dd_RC_isInstruction 22 rfl) (by decide) (fun _ => ?_) (fun c33 => absurd c33 (by decide))
      refine v_iload_n G (decAt dd_RC_isInstruction 32 rfl) rfl ?_
      refine v_bipush G 7 (decAt dd_RC_isInstruction 33 rfl) (by decide) ?_
      refine v_icmp_ne G 74 (decAt dd_RC_isInstruction 34 rfl) (by decide) (fun _ => ?_) (fun c55 => absurd c55 (by decide))
      refine v_iload_n G (decAt dd_RC_isInstruction 44 rfl) rfl ?_
      refine v_bipush G 8 (decAt dd_RC_isInstruction 45 rfl) (by decide) ?_
      refine v_icmp_eq G 86 (decAt dd_RC_isInstruction 46 rfl) (by decide) (fun c77 => absurd c77 (by decide)) (fun _ => ?_)
      refine v_iload_n G (decAt dd_RC_isInstruction 47 rfl) rfl ?_
      refine v_bipush G 9 (decAt dd_RC_isInstruction 48 rfl) (by decide) ?_
      refine v_icmp_ne G 101 (decAt dd_RC_isInstruction 49 rfl) (by decide) (fun _ => ?_) (fun c83 => absurd c83 (by decide))
      refine v_iload_n G (decAt dd_RC_isInstruction 59 rfl) rfl ?_
      refine v_bipush G 10 (decAt dd_RC_isInstruction 60 rfl) (by decide) ?_
      refine v_icmp_lt G 129 (decAt dd_RC_isInstruction 61 rfl) (by decide) (fun _ => ?_) (fun c104 => absurd c104 (by decide))
      refine v_iload_n G (decAt dd_RC_isInstruction 74 rfl) rfl ?_
      refine v_bipush G 18 (decAt dd_RC_isInstruction 75 rfl) (by decide) ?_
      refine v_icmp_ne G 158 (decAt dd_RC_isInstruction 76 rfl) (by decide) (fun _ => ?_) (fun c132 => absurd c132 (by decide))
      refine v_iconst G 1 (decAt dd_RC_isInstruction 91 rfl) (by decide) ?_
      refine v_goto G 163 (decAt dd_RC_isInstruction 92 rfl) (by decide) ?_
      exact v_zret G (decAt dd_RC_isInstruction 94 rfl) rfl rfl ⟨true, rfl, ⟨fun _ => ⟨by show good1 (A 0 k) (A 1 k) = true; rw [hNe, hAe]; exact decide_eq_true (show (0 : Int32) ≤ nI 4 ∧ nI 4 ≤ 20 from by decide), Or.inl (by rw [hNe]; decide)⟩, fun _ => rfl⟩, rfl, rfl, rfl, rfl, rfl⟩
    · skip
      refine v_aload_n G (decAt dd_RC_isInstruction 0 rfl) rfl ?_
      refine v_geta G (decAt dd_RC_isInstruction 1 rfl) f_RC_13 ?_
      refine v_iload_n G (decAt dd_RC_isInstruction 2 rfl) rfl ?_
      refine v_iald G 0 _ (decAt dd_RC_isInstruction 3 rfl) (by decide) rfl (by first | with_reducible rfl | with_reducible exact nI_1 _ | with_reducible exact nI_add _ _ | assumption) (by omega) ?_
      refine v_ri (y := nI 5) hNe ?_
      refine v_istore_2 G (decAt dd_RC_isInstruction 4 rfl) (by decide) rfl ?_
      refine v_aload_n G (decAt dd_RC_isInstruction 5 rfl) rfl ?_
      refine v_geta G (decAt dd_RC_isInstruction 6 rfl) f_RC_17 ?_
      refine v_iload_n G (decAt dd_RC_isInstruction 7 rfl) rfl ?_
      refine v_iald G 1 _ (decAt dd_RC_isInstruction 8 rfl) (by decide) rfl (by first | with_reducible rfl | with_reducible exact nI_1 _ | with_reducible exact nI_add _ _ | assumption) (by omega) ?_
      refine v_ri (y := a) hAe ?_
      refine v_istore_3 G (decAt dd_RC_isInstruction 9 rfl) (by decide) rfl ?_
      refine v_iload_n G (decAt dd_RC_isInstruction 10 rfl) rfl ?_
      refine v_if_lt G 24 (decAt dd_RC_isInstruction 11 rfl) (by decide) (fun c15 => absurd c15 (by decide)) (fun _ => ?_)
      refine v_iload_n G (decAt dd_RC_isInstruction 12 rfl) rfl ?_
      refine v_bipush G 20 (decAt dd_RC_isInstruction 13 rfl) (by decide) ?_
      refine v_icmp_le G 26 (decAt dd_RC_isInstruction 14 rfl) (by decide) (fun _ => ?_) (fun c21 => absurd c21 (by decide))
      refine v_iload_n G (decAt dd_RC_isInstruction 17 rfl) rfl ?_
      refine v_iconst G 1 (decAt dd_RC_isInstruction 18 rfl) (by decide) ?_
      refine v_icmp_eq G 36 (decAt dd_RC_isInstruction 19 rfl) (by decide) (fun c28 => absurd c28 (by decide)) (fun _ => ?_)
      refine v_iload_n G (decAt dd_RC_isInstruction 20 rfl) rfl ?_
      refine v_iconst G 2 (decAt dd_RC_isInstruction 21 rfl) (by decide) ?_
      refine v_icmp_ne G 52 (decAt dd_RC_isInstruction 22 rfl) (by decide) (fun _ => ?_) (fun c33 => absurd c33 (by decide))
      refine v_iload_n G (decAt dd_RC_isInstruction 32 rfl) rfl ?_
      refine v_bipush G 7 (decAt dd_RC_isInstruction 33 rfl) (by decide) ?_
      refine v_icmp_ne G 74 (decAt dd_RC_isInstruction 34 rfl) (by decide) (fun _ => ?_) (fun c55 => absurd c55 (by decide))
      refine v_iload_n G (decAt dd_RC_isInstruction 44 rfl) rfl ?_
      refine v_bipush G 8 (decAt dd_RC_isInstruction 45 rfl) (by decide) ?_
      refine v_icmp_eq G 86 (decAt dd_RC_isInstruction 46 rfl) (by decide) (fun c77 => absurd c77 (by decide)) (fun _ => ?_)
      refine v_iload_n G (decAt dd_RC_isInstruction 47 rfl) rfl ?_
      refine v_bipush G 9 (decAt dd_RC_isInstruction 48 rfl) (by decide) ?_
      refine v_icmp_ne G 101 (decAt dd_RC_isInstruction 49 rfl) (by decide) (fun _ => ?_) (fun c83 => absurd c83 (by decide))
      refine v_iload_n G (decAt dd_RC_isInstruction 59 rfl) rfl ?_
      refine v_bipush G 10 (decAt dd_RC_isInstruction 60 rfl) (by decide) ?_
      refine v_icmp_lt G 129 (decAt dd_RC_isInstruction 61 rfl) (by decide) (fun _ => ?_) (fun c104 => absurd c104 (by decide))
      refine v_iload_n G (decAt dd_RC_isInstruction 74 rfl) rfl ?_
      refine v_bipush G 18 (decAt dd_RC_isInstruction 75 rfl) (by decide) ?_
      refine v_icmp_ne G 158 (decAt dd_RC_isInstruction 76 rfl) (by decide) (fun _ => ?_) (fun c132 => absurd c132 (by decide))
      refine v_iconst G 1 (decAt dd_RC_isInstruction 91 rfl) (by decide) ?_
      refine v_goto G 163 (decAt dd_RC_isInstruction 92 rfl) (by decide) ?_
      exact v_zret G (decAt dd_RC_isInstruction 94 rfl) rfl rfl ⟨true, rfl, ⟨fun _ => ⟨by show good1 (A 0 k) (A 1 k) = true; rw [hNe, hAe]; exact decide_eq_true (show (0 : Int32) ≤ nI 5 ∧ nI 5 ≤ 20 from by decide), Or.inl (by rw [hNe]; decide)⟩, fun _ => rfl⟩, rfl, rfl, rfl, rfl, rfl⟩
    · skip
      refine v_aload_n G (decAt dd_RC_isInstruction 0 rfl) rfl ?_
      refine v_geta G (decAt dd_RC_isInstruction 1 rfl) f_RC_13 ?_
      refine v_iload_n G (decAt dd_RC_isInstruction 2 rfl) rfl ?_
      refine v_iald G 0 _ (decAt dd_RC_isInstruction 3 rfl) (by decide) rfl (by first | with_reducible rfl | with_reducible exact nI_1 _ | with_reducible exact nI_add _ _ | assumption) (by omega) ?_
      refine v_ri (y := nI 6) hNe ?_
      refine v_istore_2 G (decAt dd_RC_isInstruction 4 rfl) (by decide) rfl ?_
      refine v_aload_n G (decAt dd_RC_isInstruction 5 rfl) rfl ?_
      refine v_geta G (decAt dd_RC_isInstruction 6 rfl) f_RC_17 ?_
      refine v_iload_n G (decAt dd_RC_isInstruction 7 rfl) rfl ?_
      refine v_iald G 1 _ (decAt dd_RC_isInstruction 8 rfl) (by decide) rfl (by first | with_reducible rfl | with_reducible exact nI_1 _ | with_reducible exact nI_add _ _ | assumption) (by omega) ?_
      refine v_ri (y := a) hAe ?_
      refine v_istore_3 G (decAt dd_RC_isInstruction 9 rfl) (by decide) rfl ?_
      refine v_iload_n G (decAt dd_RC_isInstruction 10 rfl) rfl ?_
      refine v_if_lt G 24 (decAt dd_RC_isInstruction 11 rfl) (by decide) (fun c15 => absurd c15 (by decide)) (fun _ => ?_)
      refine v_iload_n G (decAt dd_RC_isInstruction 12 rfl) rfl ?_
      refine v_bipush G 20 (decAt dd_RC_isInstruction 13 rfl) (by decide) ?_
      refine v_icmp_le G 26 (decAt dd_RC_isInstruction 14 rfl) (by decide) (fun _ => ?_) (fun c21 => absurd c21 (by decide))
      refine v_iload_n G (decAt dd_RC_isInstruction 17 rfl) rfl ?_
      refine v_iconst G 1 (decAt dd_RC_isInstruction 18 rfl) (by decide) ?_
      refine v_icmp_eq G 36 (decAt dd_RC_isInstruction 19 rfl) (by decide) (fun c28 => absurd c28 (by decide)) (fun _ => ?_)
      refine v_iload_n G (decAt dd_RC_isInstruction 20 rfl) rfl ?_
      refine v_iconst G 2 (decAt dd_RC_isInstruction 21 rfl) (by decide) ?_
      refine v_icmp_ne G 52 (decAt dd_RC_isInstruction 22 rfl) (by decide) (fun _ => ?_) (fun c33 => absurd c33 (by decide))
      refine v_iload_n G (decAt dd_RC_isInstruction 32 rfl) rfl ?_
      refine v_bipush G 7 (decAt dd_RC_isInstruction 33 rfl) (by decide) ?_
      refine v_icmp_ne G 74 (decAt dd_RC_isInstruction 34 rfl) (by decide) (fun _ => ?_) (fun c55 => absurd c55 (by decide))
      refine v_iload_n G (decAt dd_RC_isInstruction 44 rfl) rfl ?_
      refine v_bipush G 8 (decAt dd_RC_isInstruction 45 rfl) (by decide) ?_
      refine v_icmp_eq G 86 (decAt dd_RC_isInstruction 46 rfl) (by decide) (fun c77 => absurd c77 (by decide)) (fun _ => ?_)
      refine v_iload_n G (decAt dd_RC_isInstruction 47 rfl) rfl ?_
      refine v_bipush G 9 (decAt dd_RC_isInstruction 48 rfl) (by decide) ?_
      refine v_icmp_ne G 101 (decAt dd_RC_isInstruction 49 rfl) (by decide) (fun _ => ?_) (fun c83 => absurd c83 (by decide))
      refine v_iload_n G (decAt dd_RC_isInstruction 59 rfl) rfl ?_
      refine v_bipush G 10 (decAt dd_RC_isInstruction 60 rfl) (by decide) ?_
      refine v_icmp_lt G 129 (decAt dd_RC_isInstruction 61 rfl) (by decide) (fun _ => ?_) (fun c104 => absurd c104 (by decide))
      refine v_iload_n G (decAt dd_RC_isInstruction 74 rfl) rfl ?_
      refine v_bipush G 18 (decAt dd_RC_isInstruction 75 rfl) (by decide) ?_
      refine v_icmp_ne G 158 (decAt dd_RC_isInstruction 76 rfl) (by decide) (fun _ => ?_) (fun c132 => absurd c132 (by decide))
      refine v_iconst G 1 (decAt dd_RC_isInstruction 91 rfl) (by decide) ?_
      refine v_goto G 163 (decAt dd_RC_isInstruction 92 rfl) (by decide) ?_
      exact v_zret G (decAt dd_RC_isInstruction 94 rfl) rfl rfl ⟨true, rfl, ⟨fun _ => ⟨by show good1 (A 0 k) (A 1 k) = true; rw [hNe, hAe]; exact decide_eq_true (show (0 : Int32) ≤ nI 6 ∧ nI 6 ≤ 20 from by decide), Or.inl (by rw [hNe]; decide)⟩, fun _ => rfl⟩, rfl, rfl, rfl, rfl, rfl⟩
    · skip
      refine v_aload_n G (decAt dd_RC_isInstruction 0 rfl) rfl ?_
      refine v_geta G (decAt dd_RC_isInstruction 1 rfl) f_RC_13 ?_
      refine v_iload_n G (decAt dd_RC_isInstruction 2 rfl) rfl ?_
      refine v_iald G 0 _ (decAt dd_RC_isInstruction 3 rfl) (by decide) rfl (by first | with_reducible rfl | with_reducible exact nI_1 _ | with_reducible exact nI_add _ _ | assumption) (by omega) ?_
      refine v_ri (y := nI 7) hNe ?_
      refine v_istore_2 G (decAt dd_RC_isInstruction 4 rfl) (by decide) rfl ?_
      refine v_aload_n G (decAt dd_RC_isInstruction 5 rfl) rfl ?_
      refine v_geta G (decAt dd_RC_isInstruction 6 rfl) f_RC_17 ?_
      refine v_iload_n G (decAt dd_RC_isInstruction 7 rfl) rfl ?_
      refine v_iald G 1 _ (decAt dd_RC_isInstruction 8 rfl) (by decide) rfl (by first | with_reducible rfl | with_reducible exact nI_1 _ | with_reducible exact nI_add _ _ | assumption) (by omega) ?_
      refine v_ri (y := a) hAe ?_
      refine v_istore_3 G (decAt dd_RC_isInstruction 9 rfl) (by decide) rfl ?_
      refine v_iload_n G (decAt dd_RC_isInstruction 10 rfl) rfl ?_
      refine v_if_lt G 24 (decAt dd_RC_isInstruction 11 rfl) (by decide) (fun c15 => absurd c15 (by decide)) (fun _ => ?_)
      refine v_iload_n G (decAt dd_RC_isInstruction 12 rfl) rfl ?_
      refine v_bipush G 20 (decAt dd_RC_isInstruction 13 rfl) (by decide) ?_
      refine v_icmp_le G 26 (decAt dd_RC_isInstruction 14 rfl) (by decide) (fun _ => ?_) (fun c21 => absurd c21 (by decide))
      refine v_iload_n G (decAt dd_RC_isInstruction 17 rfl) rfl ?_
      refine v_iconst G 1 (decAt dd_RC_isInstruction 18 rfl) (by decide) ?_
      refine v_icmp_eq G 36 (decAt dd_RC_isInstruction 19 rfl) (by decide) (fun c28 => absurd c28 (by decide)) (fun _ => ?_)
      refine v_iload_n G (decAt dd_RC_isInstruction 20 rfl) rfl ?_
      refine v_iconst G 2 (decAt dd_RC_isInstruction 21 rfl) (by decide) ?_
      refine v_icmp_ne G 52 (decAt dd_RC_isInstruction 22 rfl) (by decide) (fun _ => ?_) (fun c33 => absurd c33 (by decide))
      refine v_iload_n G (decAt dd_RC_isInstruction 32 rfl) rfl ?_
      refine v_bipush G 7 (decAt dd_RC_isInstruction 33 rfl) (by decide) ?_
      refine v_icmp_ne G 74 (decAt dd_RC_isInstruction 34 rfl) (by decide) (fun c55 => absurd c55 (by decide)) (fun _ => ?_)
      refine v_iload_n G (decAt dd_RC_isInstruction 35 rfl) rfl ?_
      refine v_if_lt G 72 (decAt dd_RC_isInstruction 36 rfl) (by decide) (fun c59 => ?_) (fun c59 => ?_)
      · skip
        refine v_iconst G 0 (decAt dd_RC_isInstruction 42 rfl) (by decide) ?_
        exact v_zret G (decAt dd_RC_isInstruction 43 rfl) rfl rfl ⟨false, rfl, ⟨fun q => (by cases q), fun q => by
          have q1 : good1 (A 0 k) (A 1 k) = true := q.1
          rw [hNe, hAe] at q1
          have q2 : (0 : Int32) ≤ a ∧ a ≤ 10 := of_decide_eq_true q1
          first | exact absurd c59 (Int32.not_lt.mpr q2.1) | exact absurd q2.2 (fun h2 => absurd c65 (Int32.not_lt.mpr h2))⟩, rfl, rfl, rfl, rfl, rfl⟩
      · skip
        refine v_iload_n G (decAt dd_RC_isInstruction 37 rfl) rfl ?_
        refine v_bipush G 10 (decAt dd_RC_isInstruction 38 rfl) (by decide) ?_
        refine v_icmp_gt G 72 (decAt dd_RC_isInstruction 39 rfl) (by decide) (fun c65 => ?_) (fun c65 => ?_)
        · skip
          refine v_iconst G 0 (decAt dd_RC_isInstruction 42 rfl) (by decide) ?_
          exact v_zret G (decAt dd_RC_isInstruction 43 rfl) rfl rfl ⟨false, rfl, ⟨fun q => (by cases q), fun q => by
            have q1 : good1 (A 0 k) (A 1 k) = true := q.1
            rw [hNe, hAe] at q1
            have q2 : (0 : Int32) ≤ a ∧ a ≤ 10 := of_decide_eq_true q1
            first | exact absurd c59 (Int32.not_lt.mpr q2.1) | exact absurd q2.2 (fun h2 => absurd c65 (Int32.not_lt.mpr h2))⟩, rfl, rfl, rfl, rfl, rfl⟩
        · skip
          refine v_iconst G 1 (decAt dd_RC_isInstruction 40 rfl) (by decide) ?_
          refine v_goto G 73 (decAt dd_RC_isInstruction 41 rfl) (by decide) ?_
          exact v_zret G (decAt dd_RC_isInstruction 43 rfl) rfl rfl ⟨true, rfl, ⟨fun _ => ⟨by show good1 (A 0 k) (A 1 k) = true; rw [hNe, hAe]; exact decide_eq_true ⟨i32_in c59, (i32_in c65)⟩, Or.inl (by rw [hNe]; decide)⟩, fun _ => rfl⟩, rfl, rfl, rfl, rfl, rfl⟩
    · skip
      refine v_aload_n G (decAt dd_RC_isInstruction 0 rfl) rfl ?_
      refine v_geta G (decAt dd_RC_isInstruction 1 rfl) f_RC_13 ?_
      refine v_iload_n G (decAt dd_RC_isInstruction 2 rfl) rfl ?_
      refine v_iald G 0 _ (decAt dd_RC_isInstruction 3 rfl) (by decide) rfl (by first | with_reducible rfl | with_reducible exact nI_1 _ | with_reducible exact nI_add _ _ | assumption) (by omega) ?_
      refine v_ri (y := nI 8) hNe ?_
      refine v_istore_2 G (decAt dd_RC_isInstruction 4 rfl) (by decide) rfl ?_
      refine v_aload_n G (decAt dd_RC_isInstruction 5 rfl) rfl ?_
      refine v_geta G (decAt dd_RC_isInstruction 6 rfl) f_RC_17 ?_
      refine v_iload_n G (decAt dd_RC_isInstruction 7 rfl) rfl ?_
      refine v_iald G 1 _ (decAt dd_RC_isInstruction 8 rfl) (by decide) rfl (by first | with_reducible rfl | with_reducible exact nI_1 _ | with_reducible exact nI_add _ _ | assumption) (by omega) ?_
      refine v_ri (y := a) hAe ?_
      refine v_istore_3 G (decAt dd_RC_isInstruction 9 rfl) (by decide) rfl ?_
      refine v_iload_n G (decAt dd_RC_isInstruction 10 rfl) rfl ?_
      refine v_if_lt G 24 (decAt dd_RC_isInstruction 11 rfl) (by decide) (fun c15 => absurd c15 (by decide)) (fun _ => ?_)
      refine v_iload_n G (decAt dd_RC_isInstruction 12 rfl) rfl ?_
      refine v_bipush G 20 (decAt dd_RC_isInstruction 13 rfl) (by decide) ?_
      refine v_icmp_le G 26 (decAt dd_RC_isInstruction 14 rfl) (by decide) (fun _ => ?_) (fun c21 => absurd c21 (by decide))
      refine v_iload_n G (decAt dd_RC_isInstruction 17 rfl) rfl ?_
      refine v_iconst G 1 (decAt dd_RC_isInstruction 18 rfl) (by decide) ?_
      refine v_icmp_eq G 36 (decAt dd_RC_isInstruction 19 rfl) (by decide) (fun c28 => absurd c28 (by decide)) (fun _ => ?_)
      refine v_iload_n G (decAt dd_RC_isInstruction 20 rfl) rfl ?_
      refine v_iconst G 2 (decAt dd_RC_isInstruction 21 rfl) (by decide) ?_
      refine v_icmp_ne G 52 (decAt dd_RC_isInstruction 22 rfl) (by decide) (fun _ => ?_) (fun c33 => absurd c33 (by decide))
      refine v_iload_n G (decAt dd_RC_isInstruction 32 rfl) rfl ?_
      refine v_bipush G 7 (decAt dd_RC_isInstruction 33 rfl) (by decide) ?_
      refine v_icmp_ne G 74 (decAt dd_RC_isInstruction 34 rfl) (by decide) (fun _ => ?_) (fun c55 => absurd c55 (by decide))
      refine v_iload_n G (decAt dd_RC_isInstruction 44 rfl) rfl ?_
      refine v_bipush G 8 (decAt dd_RC_isInstruction 45 rfl) (by decide) ?_
      refine v_icmp_eq G 86 (decAt dd_RC_isInstruction 46 rfl) (by decide) (fun _ => ?_) (fun c77 => absurd c77 (by decide))
      refine v_iload_n G (decAt dd_RC_isInstruction 50 rfl) rfl ?_
      refine v_if_lt G 99 (decAt dd_RC_isInstruction 51 rfl) (by decide) (fun c87 => ?_) (fun c87 => ?_)
      · skip
        refine v_iconst G 0 (decAt dd_RC_isInstruction 57 rfl) (by decide) ?_
        exact v_zret G (decAt dd_RC_isInstruction 58 rfl) rfl rfl ⟨false, rfl, ⟨fun q => (by cases q), fun q => by
          have q1 : good1 (A 0 k) (A 1 k) = true := q.1
          rw [hNe, hAe] at q1
          have q2 : (0 : Int32) ≤ a ∧ a ≤ 5 := of_decide_eq_true q1
          first | exact absurd c87 (Int32.not_lt.mpr q2.1) | exact absurd q2.2 (fun h2 => absurd c92 (Int32.not_lt.mpr h2))⟩, rfl, rfl, rfl, rfl, rfl⟩
      · skip
        refine v_iload_n G (decAt dd_RC_isInstruction 52 rfl) rfl ?_
        refine v_iconst G 5 (decAt dd_RC_isInstruction 53 rfl) (by decide) ?_
        refine v_icmp_gt G 99 (decAt dd_RC_isInstruction 54 rfl) (by decide) (fun c92 => ?_) (fun c92 => ?_)
        · skip
          refine v_iconst G 0 (decAt dd_RC_isInstruction 57 rfl) (by decide) ?_
          exact v_zret G (decAt dd_RC_isInstruction 58 rfl) rfl rfl ⟨false, rfl, ⟨fun q => (by cases q), fun q => by
            have q1 : good1 (A 0 k) (A 1 k) = true := q.1
            rw [hNe, hAe] at q1
            have q2 : (0 : Int32) ≤ a ∧ a ≤ 5 := of_decide_eq_true q1
            first | exact absurd c87 (Int32.not_lt.mpr q2.1) | exact absurd q2.2 (fun h2 => absurd c92 (Int32.not_lt.mpr h2))⟩, rfl, rfl, rfl, rfl, rfl⟩
        · skip
          refine v_iconst G 1 (decAt dd_RC_isInstruction 55 rfl) (by decide) ?_
          refine v_goto G 100 (decAt dd_RC_isInstruction 56 rfl) (by decide) ?_
          exact v_zret G (decAt dd_RC_isInstruction 58 rfl) rfl rfl ⟨true, rfl, ⟨fun _ => ⟨by show good1 (A 0 k) (A 1 k) = true; rw [hNe, hAe]; exact decide_eq_true ⟨i32_in c87, (i32_in c92)⟩, Or.inl (by rw [hNe]; decide)⟩, fun _ => rfl⟩, rfl, rfl, rfl, rfl, rfl⟩
    · skip
      refine v_aload_n G (decAt dd_RC_isInstruction 0 rfl) rfl ?_
      refine v_geta G (decAt dd_RC_isInstruction 1 rfl) f_RC_13 ?_
      refine v_iload_n G (decAt dd_RC_isInstruction 2 rfl) rfl ?_
      refine v_iald G 0 _ (decAt dd_RC_isInstruction 3 rfl) (by decide) rfl (by first | with_reducible rfl | with_reducible exact nI_1 _ | with_reducible exact nI_add _ _ | assumption) (by omega) ?_
      refine v_ri (y := nI 9) hNe ?_
      refine v_istore_2 G (decAt dd_RC_isInstruction 4 rfl) (by decide) rfl ?_
      refine v_aload_n G (decAt dd_RC_isInstruction 5 rfl) rfl ?_
      refine v_geta G (decAt dd_RC_isInstruction 6 rfl) f_RC_17 ?_
      refine v_iload_n G (decAt dd_RC_isInstruction 7 rfl) rfl ?_
      refine v_iald G 1 _ (decAt dd_RC_isInstruction 8 rfl) (by decide) rfl (by first | with_reducible rfl | with_reducible exact nI_1 _ | with_reducible exact nI_add _ _ | assumption) (by omega) ?_
      refine v_ri (y := a) hAe ?_
      refine v_istore_3 G (decAt dd_RC_isInstruction 9 rfl) (by decide) rfl ?_
      refine v_iload_n G (decAt dd_RC_isInstruction 10 rfl) rfl ?_
      refine v_if_lt G 24 (decAt dd_RC_isInstruction 11 rfl) (by decide) (fun c15 => absurd c15 (by decide)) (fun _ => ?_)
      refine v_iload_n G (decAt dd_RC_isInstruction 12 rfl) rfl ?_
      refine v_bipush G 20 (decAt dd_RC_isInstruction 13 rfl) (by decide) ?_
      refine v_icmp_le G 26 (decAt dd_RC_isInstruction 14 rfl) (by decide) (fun _ => ?_) (fun c21 => absurd c21 (by decide))
      refine v_iload_n G (decAt dd_RC_isInstruction 17 rfl) rfl ?_
      refine v_iconst G 1 (decAt dd_RC_isInstruction 18 rfl) (by decide) ?_
      refine v_icmp_eq G 36 (decAt dd_RC_isInstruction 19 rfl) (by decide) (fun c28 => absurd c28 (by decide)) (fun _ => ?_)
      refine v_iload_n G (decAt dd_RC_isInstruction 20 rfl) rfl ?_
      refine v_iconst G 2 (decAt dd_RC_isInstruction 21 rfl) (by decide) ?_
      refine v_icmp_ne G 52 (decAt dd_RC_isInstruction 22 rfl) (by decide) (fun _ => ?_) (fun c33 => absurd c33 (by decide))
      refine v_iload_n G (decAt dd_RC_isInstruction 32 rfl) rfl ?_
      refine v_bipush G 7 (decAt dd_RC_isInstruction 33 rfl) (by decide) ?_
      refine v_icmp_ne G 74 (decAt dd_RC_isInstruction 34 rfl) (by decide) (fun _ => ?_) (fun c55 => absurd c55 (by decide))
      refine v_iload_n G (decAt dd_RC_isInstruction 44 rfl) rfl ?_
      refine v_bipush G 8 (decAt dd_RC_isInstruction 45 rfl) (by decide) ?_
      refine v_icmp_eq G 86 (decAt dd_RC_isInstruction 46 rfl) (by decide) (fun c77 => absurd c77 (by decide)) (fun _ => ?_)
      refine v_iload_n G (decAt dd_RC_isInstruction 47 rfl) rfl ?_
      refine v_bipush G 9 (decAt dd_RC_isInstruction 48 rfl) (by decide) ?_
      refine v_icmp_ne G 101 (decAt dd_RC_isInstruction 49 rfl) (by decide) (fun c83 => absurd c83 (by decide)) (fun _ => ?_)
      refine v_iload_n G (decAt dd_RC_isInstruction 50 rfl) rfl ?_
      refine v_if_lt G 99 (decAt dd_RC_isInstruction 51 rfl) (by decide) (fun c87 => ?_) (fun c87 => ?_)
      · skip
        refine v_iconst G 0 (decAt dd_RC_isInstruction 57 rfl) (by decide) ?_
        exact v_zret G (decAt dd_RC_isInstruction 58 rfl) rfl rfl ⟨false, rfl, ⟨fun q => (by cases q), fun q => by
          have q1 : good1 (A 0 k) (A 1 k) = true := q.1
          rw [hNe, hAe] at q1
          have q2 : (0 : Int32) ≤ a ∧ a ≤ 5 := of_decide_eq_true q1
          first | exact absurd c87 (Int32.not_lt.mpr q2.1) | exact absurd q2.2 (fun h2 => absurd c92 (Int32.not_lt.mpr h2))⟩, rfl, rfl, rfl, rfl, rfl⟩
      · skip
        refine v_iload_n G (decAt dd_RC_isInstruction 52 rfl) rfl ?_
        refine v_iconst G 5 (decAt dd_RC_isInstruction 53 rfl) (by decide) ?_
        refine v_icmp_gt G 99 (decAt dd_RC_isInstruction 54 rfl) (by decide) (fun c92 => ?_) (fun c92 => ?_)
        · skip
          refine v_iconst G 0 (decAt dd_RC_isInstruction 57 rfl) (by decide) ?_
          exact v_zret G (decAt dd_RC_isInstruction 58 rfl) rfl rfl ⟨false, rfl, ⟨fun q => (by cases q), fun q => by
            have q1 : good1 (A 0 k) (A 1 k) = true := q.1
            rw [hNe, hAe] at q1
            have q2 : (0 : Int32) ≤ a ∧ a ≤ 5 := of_decide_eq_true q1
            first | exact absurd c87 (Int32.not_lt.mpr q2.1) | exact absurd q2.2 (fun h2 => absurd c92 (Int32.not_lt.mpr h2))⟩, rfl, rfl, rfl, rfl, rfl⟩
        · skip
          refine v_iconst G 1 (decAt dd_RC_isInstruction 55 rfl) (by decide) ?_
          refine v_goto G 100 (decAt dd_RC_isInstruction 56 rfl) (by decide) ?_
          exact v_zret G (decAt dd_RC_isInstruction 58 rfl) rfl rfl ⟨true, rfl, ⟨fun _ => ⟨by show good1 (A 0 k) (A 1 k) = true; rw [hNe, hAe]; exact decide_eq_true ⟨i32_in c87, (i32_in c92)⟩, Or.inl (by rw [hNe]; decide)⟩, fun _ => rfl⟩, rfl, rfl, rfl, rfl, rfl⟩
    · skip
      refine v_aload_n G (decAt dd_RC_isInstruction 0 rfl) rfl ?_
      refine v_geta G (decAt dd_RC_isInstruction 1 rfl) f_RC_13 ?_
      refine v_iload_n G (decAt dd_RC_isInstruction 2 rfl) rfl ?_
      refine v_iald G 0 _ (decAt dd_RC_isInstruction 3 rfl) (by decide) rfl (by first | with_reducible rfl | with_reducible exact nI_1 _ | with_reducible exact nI_add _ _ | assumption) (by omega) ?_
      refine v_ri (y := nI 10) hNe ?_
      refine v_istore_2 G (decAt dd_RC_isInstruction 4 rfl) (by decide) rfl ?_
      refine v_aload_n G (decAt dd_RC_isInstruction 5 rfl) rfl ?_
      refine v_geta G (decAt dd_RC_isInstruction 6 rfl) f_RC_17 ?_
      refine v_iload_n G (decAt dd_RC_isInstruction 7 rfl) rfl ?_
      refine v_iald G 1 _ (decAt dd_RC_isInstruction 8 rfl) (by decide) rfl (by first | with_reducible rfl | with_reducible exact nI_1 _ | with_reducible exact nI_add _ _ | assumption) (by omega) ?_
      refine v_ri (y := a) hAe ?_
      refine v_istore_3 G (decAt dd_RC_isInstruction 9 rfl) (by decide) rfl ?_
      refine v_iload_n G (decAt dd_RC_isInstruction 10 rfl) rfl ?_
      refine v_if_lt G 24 (decAt dd_RC_isInstruction 11 rfl) (by decide) (fun c15 => absurd c15 (by decide)) (fun _ => ?_)
      refine v_iload_n G (decAt dd_RC_isInstruction 12 rfl) rfl ?_
      refine v_bipush G 20 (decAt dd_RC_isInstruction 13 rfl) (by decide) ?_
      refine v_icmp_le G 26 (decAt dd_RC_isInstruction 14 rfl) (by decide) (fun _ => ?_) (fun c21 => absurd c21 (by decide))
      refine v_iload_n G (decAt dd_RC_isInstruction 17 rfl) rfl ?_
      refine v_iconst G 1 (decAt dd_RC_isInstruction 18 rfl) (by decide) ?_
      refine v_icmp_eq G 36 (decAt dd_RC_isInstruction 19 rfl) (by decide) (fun c28 => absurd c28 (by decide)) (fun _ => ?_)
      refine v_iload_n G (decAt dd_RC_isInstruction 20 rfl) rfl ?_
      refine v_iconst G 2 (decAt dd_RC_isInstruction 21 rfl) (by decide) ?_
      refine v_icmp_ne G 52 (decAt dd_RC_isInstruction 22 rfl) (by decide) (fun _ => ?_) (fun c33 => absurd c33 (by decide))
      refine v_iload_n G (decAt dd_RC_isInstruction 32 rfl) rfl ?_
      refine v_bipush G 7 (decAt dd_RC_isInstruction 33 rfl) (by decide) ?_
      refine v_icmp_ne G 74 (decAt dd_RC_isInstruction 34 rfl) (by decide) (fun _ => ?_) (fun c55 => absurd c55 (by decide))
      refine v_iload_n G (decAt dd_RC_isInstruction 44 rfl) rfl ?_
      refine v_bipush G 8 (decAt dd_RC_isInstruction 45 rfl) (by decide) ?_
      refine v_icmp_eq G 86 (decAt dd_RC_isInstruction 46 rfl) (by decide) (fun c77 => absurd c77 (by decide)) (fun _ => ?_)
      refine v_iload_n G (decAt dd_RC_isInstruction 47 rfl) rfl ?_
      refine v_bipush G 9 (decAt dd_RC_isInstruction 48 rfl) (by decide) ?_
      refine v_icmp_ne G 101 (decAt dd_RC_isInstruction 49 rfl) (by decide) (fun _ => ?_) (fun c83 => absurd c83 (by decide))
      refine v_iload_n G (decAt dd_RC_isInstruction 59 rfl) rfl ?_
      refine v_bipush G 10 (decAt dd_RC_isInstruction 60 rfl) (by decide) ?_
      refine v_icmp_lt G 129 (decAt dd_RC_isInstruction 61 rfl) (by decide) (fun c104 => absurd c104 (by decide)) (fun _ => ?_)
      refine v_iload_n G (decAt dd_RC_isInstruction 62 rfl) rfl ?_
      refine v_bipush G 13 (decAt dd_RC_isInstruction 63 rfl) (by decide) ?_
      refine v_icmp_gt G 129 (decAt dd_RC_isInstruction 64 rfl) (by decide) (fun c110 => absurd c110 (by decide)) (fun _ => ?_)
      refine v_iload_n G (decAt dd_RC_isInstruction 65 rfl) rfl ?_
      refine v_if_lt G 127 (decAt dd_RC_isInstruction 66 rfl) (by decide) (fun c114 => ?_) (fun c114 => ?_)
      · skip
        refine v_iconst G 0 (decAt dd_RC_isInstruction 72 rfl) (by decide) ?_
        exact v_zret G (decAt dd_RC_isInstruction 73 rfl) rfl rfl ⟨false, rfl, ⟨fun q => (by cases q), fun q => by
          have q1 : good1 (A 0 k) (A 1 k) = true := q.1
          rw [hNe, hAe] at q1
          have q2 : (0 : Int32) ≤ a ∧ a ≤ 99 := of_decide_eq_true q1
          first | exact absurd c114 (Int32.not_lt.mpr q2.1) | exact absurd q2.2 (fun h2 => by have h := c120; rw [Int32.le_iff_toInt_le] at h h2; have h : (100 : Int) ≤ a.toInt := h; have h2 : a.toInt ≤ (99 : Int) := h2; omega)⟩, rfl, rfl, rfl, rfl, rfl⟩
      · skip
        refine v_iload_n G (decAt dd_RC_isInstruction 67 rfl) rfl ?_
        refine v_bipush G 100 (decAt dd_RC_isInstruction 68 rfl) (by decide) ?_
        refine v_icmp_ge G 127 (decAt dd_RC_isInstruction 69 rfl) (by decide) (fun c120 => ?_) (fun c120 => ?_)
        · skip
          refine v_iconst G 0 (decAt dd_RC_isInstruction 72 rfl) (by decide) ?_
          exact v_zret G (decAt dd_RC_isInstruction 73 rfl) rfl rfl ⟨false, rfl, ⟨fun q => (by cases q), fun q => by
            have q1 : good1 (A 0 k) (A 1 k) = true := q.1
            rw [hNe, hAe] at q1
            have q2 : (0 : Int32) ≤ a ∧ a ≤ 99 := of_decide_eq_true q1
            first | exact absurd c114 (Int32.not_lt.mpr q2.1) | exact absurd q2.2 (fun h2 => by have h := c120; rw [Int32.le_iff_toInt_le] at h h2; have h : (100 : Int) ≤ a.toInt := h; have h2 : a.toInt ≤ (99 : Int) := h2; omega)⟩, rfl, rfl, rfl, rfl, rfl⟩
        · skip
          refine v_iconst G 1 (decAt dd_RC_isInstruction 70 rfl) (by decide) ?_
          refine v_goto G 128 (decAt dd_RC_isInstruction 71 rfl) (by decide) ?_
          exact v_zret G (decAt dd_RC_isInstruction 73 rfl) rfl rfl ⟨true, rfl, ⟨fun _ => ⟨by show good1 (A 0 k) (A 1 k) = true; rw [hNe, hAe]; exact decide_eq_true ⟨i32_in c114, (by have h := c120; rw [Int32.le_iff_toInt_le] at h ⊢; have h2 : ¬ (100 : Int) ≤ a.toInt := h; show a.toInt ≤ (99 : Int); omega)⟩, Or.inl (by rw [hNe]; decide)⟩, fun _ => rfl⟩, rfl, rfl, rfl, rfl, rfl⟩
    · skip
      refine v_aload_n G (decAt dd_RC_isInstruction 0 rfl) rfl ?_
      refine v_geta G (decAt dd_RC_isInstruction 1 rfl) f_RC_13 ?_
      refine v_iload_n G (decAt dd_RC_isInstruction 2 rfl) rfl ?_
      refine v_iald G 0 _ (decAt dd_RC_isInstruction 3 rfl) (by decide) rfl (by first | with_reducible rfl | with_reducible exact nI_1 _ | with_reducible exact nI_add _ _ | assumption) (by omega) ?_
      refine v_ri (y := nI 11) hNe ?_
      refine v_istore_2 G (decAt dd_RC_isInstruction 4 rfl) (by decide) rfl ?_
      refine v_aload_n G (decAt dd_RC_isInstruction 5 rfl) rfl ?_
      refine v_geta G (decAt dd_RC_isInstruction 6 rfl) f_RC_17 ?_
      refine v_iload_n G (decAt dd_RC_isInstruction 7 rfl) rfl ?_
      refine v_iald G 1 _ (decAt dd_RC_isInstruction 8 rfl) (by decide) rfl (by first | with_reducible rfl | with_reducible exact nI_1 _ | with_reducible exact nI_add _ _ | assumption) (by omega) ?_
      refine v_ri (y := a) hAe ?_
      refine v_istore_3 G (decAt dd_RC_isInstruction 9 rfl) (by decide) rfl ?_
      refine v_iload_n G (decAt dd_RC_isInstruction 10 rfl) rfl ?_
      refine v_if_lt G 24 (decAt dd_RC_isInstruction 11 rfl) (by decide) (fun c15 => absurd c15 (by decide)) (fun _ => ?_)
      refine v_iload_n G (decAt dd_RC_isInstruction 12 rfl) rfl ?_
      refine v_bipush G 20 (decAt dd_RC_isInstruction 13 rfl) (by decide) ?_
      refine v_icmp_le G 26 (decAt dd_RC_isInstruction 14 rfl) (by decide) (fun _ => ?_) (fun c21 => absurd c21 (by decide))
      refine v_iload_n G (decAt dd_RC_isInstruction 17 rfl) rfl ?_
      refine v_iconst G 1 (decAt dd_RC_isInstruction 18 rfl) (by decide) ?_
      refine v_icmp_eq G 36 (decAt dd_RC_isInstruction 19 rfl) (by decide) (fun c28 => absurd c28 (by decide)) (fun _ => ?_)
      refine v_iload_n G (decAt dd_RC_isInstruction 20 rfl) rfl ?_
      refine v_iconst G 2 (decAt dd_RC_isInstruction 21 rfl) (by decide) ?_
      refine v_icmp_ne G 52 (decAt dd_RC_isInstruction 22 rfl) (by decide) (fun _ => ?_) (fun c33 => absurd c33 (by decide))
      refine v_iload_n G (decAt dd_RC_isInstruction 32 rfl) rfl ?_
      refine v_bipush G 7 (decAt dd_RC_isInstruction 33 rfl) (by decide) ?_
      refine v_icmp_ne G 74 (decAt dd_RC_isInstruction 34 rfl) (by decide) (fun _ => ?_) (fun c55 => absurd c55 (by decide))
      refine v_iload_n G (decAt dd_RC_isInstruction 44 rfl) rfl ?_
      refine v_bipush G 8 (decAt dd_RC_isInstruction 45 rfl) (by decide) ?_
      refine v_icmp_eq G 86 (decAt dd_RC_isInstruction 46 rfl) (by decide) (fun c77 => absurd c77 (by decide)) (fun _ => ?_)
      refine v_iload_n G (decAt dd_RC_isInstruction 47 rfl) rfl ?_
      refine v_bipush G 9 (decAt dd_RC_isInstruction 48 rfl) (by decide) ?_
      refine v_icmp_ne G 101 (decAt dd_RC_isInstruction 49 rfl) (by decide) (fun _ => ?_) (fun c83 => absurd c83 (by decide))
      refine v_iload_n G (decAt dd_RC_isInstruction 59 rfl) rfl ?_
      refine v_bipush G 10 (decAt dd_RC_isInstruction 60 rfl) (by decide) ?_
      refine v_icmp_lt G 129 (decAt dd_RC_isInstruction 61 rfl) (by decide) (fun c104 => absurd c104 (by decide)) (fun _ => ?_)
      refine v_iload_n G (decAt dd_RC_isInstruction 62 rfl) rfl ?_
      refine v_bipush G 13 (decAt dd_RC_isInstruction 63 rfl) (by decide) ?_
      refine v_icmp_gt G 129 (decAt dd_RC_isInstruction 64 rfl) (by decide) (fun c110 => absurd c110 (by decide)) (fun _ => ?_)
      refine v_iload_n G (decAt dd_RC_isInstruction 65 rfl) rfl ?_
      refine v_if_lt G 127 (decAt dd_RC_isInstruction 66 rfl) (by decide) (fun c114 => ?_) (fun c114 => ?_)
      · skip
        refine v_iconst G 0 (decAt dd_RC_isInstruction 72 rfl) (by decide) ?_
        exact v_zret G (decAt dd_RC_isInstruction 73 rfl) rfl rfl ⟨false, rfl, ⟨fun q => (by cases q), fun q => by
          have q1 : good1 (A 0 k) (A 1 k) = true := q.1
          rw [hNe, hAe] at q1
          have q2 : (0 : Int32) ≤ a ∧ a ≤ 99 := of_decide_eq_true q1
          first | exact absurd c114 (Int32.not_lt.mpr q2.1) | exact absurd q2.2 (fun h2 => by have h := c120; rw [Int32.le_iff_toInt_le] at h h2; have h : (100 : Int) ≤ a.toInt := h; have h2 : a.toInt ≤ (99 : Int) := h2; omega)⟩, rfl, rfl, rfl, rfl, rfl⟩
      · skip
        refine v_iload_n G (decAt dd_RC_isInstruction 67 rfl) rfl ?_
        refine v_bipush G 100 (decAt dd_RC_isInstruction 68 rfl) (by decide) ?_
        refine v_icmp_ge G 127 (decAt dd_RC_isInstruction 69 rfl) (by decide) (fun c120 => ?_) (fun c120 => ?_)
        · skip
          refine v_iconst G 0 (decAt dd_RC_isInstruction 72 rfl) (by decide) ?_
          exact v_zret G (decAt dd_RC_isInstruction 73 rfl) rfl rfl ⟨false, rfl, ⟨fun q => (by cases q), fun q => by
            have q1 : good1 (A 0 k) (A 1 k) = true := q.1
            rw [hNe, hAe] at q1
            have q2 : (0 : Int32) ≤ a ∧ a ≤ 99 := of_decide_eq_true q1
            first | exact absurd c114 (Int32.not_lt.mpr q2.1) | exact absurd q2.2 (fun h2 => by have h := c120; rw [Int32.le_iff_toInt_le] at h h2; have h : (100 : Int) ≤ a.toInt := h; have h2 : a.toInt ≤ (99 : Int) := h2; omega)⟩, rfl, rfl, rfl, rfl, rfl⟩
        · skip
          refine v_iconst G 1 (decAt dd_RC_isInstruction 70 rfl) (by decide) ?_
          refine v_goto G 128 (decAt dd_RC_isInstruction 71 rfl) (by decide) ?_
          exact v_zret G (decAt dd_RC_isInstruction 73 rfl) rfl rfl ⟨true, rfl, ⟨fun _ => ⟨by show good1 (A 0 k) (A 1 k) = true; rw [hNe, hAe]; exact decide_eq_true ⟨i32_in c114, (by have h := c120; rw [Int32.le_iff_toInt_le] at h ⊢; have h2 : ¬ (100 : Int) ≤ a.toInt := h; show a.toInt ≤ (99 : Int); omega)⟩, Or.inl (by rw [hNe]; decide)⟩, fun _ => rfl⟩, rfl, rfl, rfl, rfl, rfl⟩
    · skip
      refine v_aload_n G (decAt dd_RC_isInstruction 0 rfl) rfl ?_
      refine v_geta G (decAt dd_RC_isInstruction 1 rfl) f_RC_13 ?_
      refine v_iload_n G (decAt dd_RC_isInstruction 2 rfl) rfl ?_
      refine v_iald G 0 _ (decAt dd_RC_isInstruction 3 rfl) (by decide) rfl (by first | with_reducible rfl | with_reducible exact nI_1 _ | with_reducible exact nI_add _ _ | assumption) (by omega) ?_
      refine v_ri (y := nI 12) hNe ?_
      refine v_istore_2 G (decAt dd_RC_isInstruction 4 rfl) (by decide) rfl ?_
      refine v_aload_n G (decAt dd_RC_isInstruction 5 rfl) rfl ?_
      refine v_geta G (decAt dd_RC_isInstruction 6 rfl) f_RC_17 ?_
      refine v_iload_n G (decAt dd_RC_isInstruction 7 rfl) rfl ?_
      refine v_iald G 1 _ (decAt dd_RC_isInstruction 8 rfl) (by decide) rfl (by first | with_reducible rfl | with_reducible exact nI_1 _ | with_reducible exact nI_add _ _ | assumption) (by omega) ?_
      refine v_ri (y := a) hAe ?_
      refine v_istore_3 G (decAt dd_RC_isInstruction 9 rfl) (by decide) rfl ?_
      refine v_iload_n G (decAt dd_RC_isInstruction 10 rfl) rfl ?_
      refine v_if_lt G 24 (decAt dd_RC_isInstruction 11 rfl) (by decide) (fun c15 => absurd c15 (by decide)) (fun _ => ?_)
      refine v_iload_n G (decAt dd_RC_isInstruction 12 rfl) rfl ?_
      refine v_bipush G 20 (decAt dd_RC_isInstruction 13 rfl) (by decide) ?_
      refine v_icmp_le G 26 (decAt dd_RC_isInstruction 14 rfl) (by decide) (fun _ => ?_) (fun c21 => absurd c21 (by decide))
      refine v_iload_n G (decAt dd_RC_isInstruction 17 rfl) rfl ?_
      refine v_iconst G 1 (decAt dd_RC_isInstruction 18 rfl) (by decide) ?_
      refine v_icmp_eq G 36 (decAt dd_RC_isInstruction 19 rfl) (by decide) (fun c28 => absurd c28 (by decide)) (fun _ => ?_)
      refine v_iload_n G (decAt dd_RC_isInstruction 20 rfl) rfl ?_
      refine v_iconst G 2 (decAt dd_RC_isInstruction 21 rfl) (by decide) ?_
      refine v_icmp_ne G 52 (decAt dd_RC_isInstruction 22 rfl) (by decide) (fun _ => ?_) (fun c33 => absurd c33 (by decide))
      refine v_iload_n G (decAt dd_RC_isInstruction 32 rfl) rfl ?_
      refine v_bipush G 7 (decAt dd_RC_isInstruction 33 rfl) (by decide) ?_
      refine v_icmp_ne G 74 (decAt dd_RC_isInstruction 34 rfl) (by decide) (fun _ => ?_) (fun c55 => absurd c55 (by decide))
      refine v_iload_n G (decAt dd_RC_isInstruction 44 rfl) rfl ?_
      refine v_bipush G 8 (decAt dd_RC_isInstruction 45 rfl) (by decide) ?_
      refine v_icmp_eq G 86 (decAt dd_RC_isInstruction 46 rfl) (by decide) (fun c77 => absurd c77 (by decide)) (fun _ => ?_)
      refine v_iload_n G (decAt dd_RC_isInstruction 47 rfl) rfl ?_
      refine v_bipush G 9 (decAt dd_RC_isInstruction 48 rfl) (by decide) ?_
      refine v_icmp_ne G 101 (decAt dd_RC_isInstruction 49 rfl) (by decide) (fun _ => ?_) (fun c83 => absurd c83 (by decide))
      refine v_iload_n G (decAt dd_RC_isInstruction 59 rfl) rfl ?_
      refine v_bipush G 10 (decAt dd_RC_isInstruction 60 rfl) (by decide) ?_
      refine v_icmp_lt G 129 (decAt dd_RC_isInstruction 61 rfl) (by decide) (fun c104 => absurd c104 (by decide)) (fun _ => ?_)
      refine v_iload_n G (decAt dd_RC_isInstruction 62 rfl) rfl ?_
      refine v_bipush G 13 (decAt dd_RC_isInstruction 63 rfl) (by decide) ?_
      refine v_icmp_gt G 129 (decAt dd_RC_isInstruction 64 rfl) (by decide) (fun c110 => absurd c110 (by decide)) (fun _ => ?_)
      refine v_iload_n G (decAt dd_RC_isInstruction 65 rfl) rfl ?_
      refine v_if_lt G 127 (decAt dd_RC_isInstruction 66 rfl) (by decide) (fun c114 => ?_) (fun c114 => ?_)
      · skip
        refine v_iconst G 0 (decAt dd_RC_isInstruction 72 rfl) (by decide) ?_
        exact v_zret G (decAt dd_RC_isInstruction 73 rfl) rfl rfl ⟨false, rfl, ⟨fun q => (by cases q), fun q => by
          have q1 : good1 (A 0 k) (A 1 k) = true := q.1
          rw [hNe, hAe] at q1
          have q2 : (0 : Int32) ≤ a ∧ a ≤ 99 := of_decide_eq_true q1
          first | exact absurd c114 (Int32.not_lt.mpr q2.1) | exact absurd q2.2 (fun h2 => by have h := c120; rw [Int32.le_iff_toInt_le] at h h2; have h : (100 : Int) ≤ a.toInt := h; have h2 : a.toInt ≤ (99 : Int) := h2; omega)⟩, rfl, rfl, rfl, rfl, rfl⟩
      · skip
        refine v_iload_n G (decAt dd_RC_isInstruction 67 rfl) rfl ?_
        refine v_bipush G 100 (decAt dd_RC_isInstruction 68 rfl) (by decide) ?_
        refine v_icmp_ge G 127 (decAt dd_RC_isInstruction 69 rfl) (by decide) (fun c120 => ?_) (fun c120 => ?_)
        · skip
          refine v_iconst G 0 (decAt dd_RC_isInstruction 72 rfl) (by decide) ?_
          exact v_zret G (decAt dd_RC_isInstruction 73 rfl) rfl rfl ⟨false, rfl, ⟨fun q => (by cases q), fun q => by
            have q1 : good1 (A 0 k) (A 1 k) = true := q.1
            rw [hNe, hAe] at q1
            have q2 : (0 : Int32) ≤ a ∧ a ≤ 99 := of_decide_eq_true q1
            first | exact absurd c114 (Int32.not_lt.mpr q2.1) | exact absurd q2.2 (fun h2 => by have h := c120; rw [Int32.le_iff_toInt_le] at h h2; have h : (100 : Int) ≤ a.toInt := h; have h2 : a.toInt ≤ (99 : Int) := h2; omega)⟩, rfl, rfl, rfl, rfl, rfl⟩
        · skip
          refine v_iconst G 1 (decAt dd_RC_isInstruction 70 rfl) (by decide) ?_
          refine v_goto G 128 (decAt dd_RC_isInstruction 71 rfl) (by decide) ?_
          exact v_zret G (decAt dd_RC_isInstruction 73 rfl) rfl rfl ⟨true, rfl, ⟨fun _ => ⟨by show good1 (A 0 k) (A 1 k) = true; rw [hNe, hAe]; exact decide_eq_true ⟨i32_in c114, (by have h := c120; rw [Int32.le_iff_toInt_le] at h ⊢; have h2 : ¬ (100 : Int) ≤ a.toInt := h; show a.toInt ≤ (99 : Int); omega)⟩, Or.inl (by rw [hNe]; decide)⟩, fun _ => rfl⟩, rfl, rfl, rfl, rfl, rfl⟩
    · skip
      refine v_aload_n G (decAt dd_RC_isInstruction 0 rfl) rfl ?_
      refine v_geta G (decAt dd_RC_isInstruction 1 rfl) f_RC_13 ?_
      refine v_iload_n G (decAt dd_RC_isInstruction 2 rfl) rfl ?_
      refine v_iald G 0 _ (decAt dd_RC_isInstruction 3 rfl) (by decide) rfl (by first | with_reducible rfl | with_reducible exact nI_1 _ | with_reducible exact nI_add _ _ | assumption) (by omega) ?_
      refine v_ri (y := nI 13) hNe ?_
      refine v_istore_2 G (decAt dd_RC_isInstruction 4 rfl) (by decide) rfl ?_
      refine v_aload_n G (decAt dd_RC_isInstruction 5 rfl) rfl ?_
      refine v_geta G (decAt dd_RC_isInstruction 6 rfl) f_RC_17 ?_
      refine v_iload_n G (decAt dd_RC_isInstruction 7 rfl) rfl ?_
      refine v_iald G 1 _ (decAt dd_RC_isInstruction 8 rfl) (by decide) rfl (by first | with_reducible rfl | with_reducible exact nI_1 _ | with_reducible exact nI_add _ _ | assumption) (by omega) ?_
      refine v_ri (y := a) hAe ?_
      refine v_istore_3 G (decAt dd_RC_isInstruction 9 rfl) (by decide) rfl ?_
      refine v_iload_n G (decAt dd_RC_isInstruction 10 rfl) rfl ?_
      refine v_if_lt G 24 (decAt dd_RC_isInstruction 11 rfl) (by decide) (fun c15 => absurd c15 (by decide)) (fun _ => ?_)
      refine v_iload_n G (decAt dd_RC_isInstruction 12 rfl) rfl ?_
      refine v_bipush G 20 (decAt dd_RC_isInstruction 13 rfl) (by decide) ?_
      refine v_icmp_le G 26 (decAt dd_RC_isInstruction 14 rfl) (by decide) (fun _ => ?_) (fun c21 => absurd c21 (by decide))
      refine v_iload_n G (decAt dd_RC_isInstruction 17 rfl) rfl ?_
      refine v_iconst G 1 (decAt dd_RC_isInstruction 18 rfl) (by decide) ?_
      refine v_icmp_eq G 36 (decAt dd_RC_isInstruction 19 rfl) (by decide) (fun c28 => absurd c28 (by decide)) (fun _ => ?_)
      refine v_iload_n G (decAt dd_RC_isInstruction 20 rfl) rfl ?_
      refine v_iconst G 2 (decAt dd_RC_isInstruction 21 rfl) (by decide) ?_
      refine v_icmp_ne G 52 (decAt dd_RC_isInstruction 22 rfl) (by decide) (fun _ => ?_) (fun c33 => absurd c33 (by decide))
      refine v_iload_n G (decAt dd_RC_isInstruction 32 rfl) rfl ?_
      refine v_bipush G 7 (decAt dd_RC_isInstruction 33 rfl) (by decide) ?_
      refine v_icmp_ne G 74 (decAt dd_RC_isInstruction 34 rfl) (by decide) (fun _ => ?_) (fun c55 => absurd c55 (by decide))
      refine v_iload_n G (decAt dd_RC_isInstruction 44 rfl) rfl ?_
      refine v_bipush G 8 (decAt dd_RC_isInstruction 45 rfl) (by decide) ?_
      refine v_icmp_eq G 86 (decAt dd_RC_isInstruction 46 rfl) (by decide) (fun c77 => absurd c77 (by decide)) (fun _ => ?_)
      refine v_iload_n G (decAt dd_RC_isInstruction 47 rfl) rfl ?_
      refine v_bipush G 9 (decAt dd_RC_isInstruction 48 rfl) (by decide) ?_
      refine v_icmp_ne G 101 (decAt dd_RC_isInstruction 49 rfl) (by decide) (fun _ => ?_) (fun c83 => absurd c83 (by decide))
      refine v_iload_n G (decAt dd_RC_isInstruction 59 rfl) rfl ?_
      refine v_bipush G 10 (decAt dd_RC_isInstruction 60 rfl) (by decide) ?_
      refine v_icmp_lt G 129 (decAt dd_RC_isInstruction 61 rfl) (by decide) (fun c104 => absurd c104 (by decide)) (fun _ => ?_)
      refine v_iload_n G (decAt dd_RC_isInstruction 62 rfl) rfl ?_
      refine v_bipush G 13 (decAt dd_RC_isInstruction 63 rfl) (by decide) ?_
      refine v_icmp_gt G 129 (decAt dd_RC_isInstruction 64 rfl) (by decide) (fun c110 => absurd c110 (by decide)) (fun _ => ?_)
      refine v_iload_n G (decAt dd_RC_isInstruction 65 rfl) rfl ?_
      refine v_if_lt G 127 (decAt dd_RC_isInstruction 66 rfl) (by decide) (fun c114 => ?_) (fun c114 => ?_)
      · skip
        refine v_iconst G 0 (decAt dd_RC_isInstruction 72 rfl) (by decide) ?_
        exact v_zret G (decAt dd_RC_isInstruction 73 rfl) rfl rfl ⟨false, rfl, ⟨fun q => (by cases q), fun q => by
          have q1 : good1 (A 0 k) (A 1 k) = true := q.1
          rw [hNe, hAe] at q1
          have q2 : (0 : Int32) ≤ a ∧ a ≤ 99 := of_decide_eq_true q1
          first | exact absurd c114 (Int32.not_lt.mpr q2.1) | exact absurd q2.2 (fun h2 => by have h := c120; rw [Int32.le_iff_toInt_le] at h h2; have h : (100 : Int) ≤ a.toInt := h; have h2 : a.toInt ≤ (99 : Int) := h2; omega)⟩, rfl, rfl, rfl, rfl, rfl⟩
      · skip
        refine v_iload_n G (decAt dd_RC_isInstruction 67 rfl) rfl ?_
        refine v_bipush G 100 (decAt dd_RC_isInstruction 68 rfl) (by decide) ?_
        refine v_icmp_ge G 127 (decAt dd_RC_isInstruction 69 rfl) (by decide) (fun c120 => ?_) (fun c120 => ?_)
        · skip
          refine v_iconst G 0 (decAt dd_RC_isInstruction 72 rfl) (by decide) ?_
          exact v_zret G (decAt dd_RC_isInstruction 73 rfl) rfl rfl ⟨false, rfl, ⟨fun q => (by cases q), fun q => by
            have q1 : good1 (A 0 k) (A 1 k) = true := q.1
            rw [hNe, hAe] at q1
            have q2 : (0 : Int32) ≤ a ∧ a ≤ 99 := of_decide_eq_true q1
            first | exact absurd c114 (Int32.not_lt.mpr q2.1) | exact absurd q2.2 (fun h2 => by have h := c120; rw [Int32.le_iff_toInt_le] at h h2; have h : (100 : Int) ≤ a.toInt := h; have h2 : a.toInt ≤ (99 : Int) := h2; omega)⟩, rfl, rfl, rfl, rfl, rfl⟩
        · skip
          refine v_iconst G 1 (decAt dd_RC_isInstruction 70 rfl) (by decide) ?_
          refine v_goto G 128 (decAt dd_RC_isInstruction 71 rfl) (by decide) ?_
          exact v_zret G (decAt dd_RC_isInstruction 73 rfl) rfl rfl ⟨true, rfl, ⟨fun _ => ⟨by show good1 (A 0 k) (A 1 k) = true; rw [hNe, hAe]; exact decide_eq_true ⟨i32_in c114, (by have h := c120; rw [Int32.le_iff_toInt_le] at h ⊢; have h2 : ¬ (100 : Int) ≤ a.toInt := h; show a.toInt ≤ (99 : Int); omega)⟩, Or.inl (by rw [hNe]; decide)⟩, fun _ => rfl⟩, rfl, rfl, rfl, rfl, rfl⟩
    · skip
      refine v_aload_n G (decAt dd_RC_isInstruction 0 rfl) rfl ?_
      refine v_geta G (decAt dd_RC_isInstruction 1 rfl) f_RC_13 ?_
      refine v_iload_n G (decAt dd_RC_isInstruction 2 rfl) rfl ?_
      refine v_iald G 0 _ (decAt dd_RC_isInstruction 3 rfl) (by decide) rfl (by first | with_reducible rfl | with_reducible exact nI_1 _ | with_reducible exact nI_add _ _ | assumption) (by omega) ?_
      refine v_ri (y := nI 14) hNe ?_
      refine v_istore_2 G (decAt dd_RC_isInstruction 4 rfl) (by decide) rfl ?_
      refine v_aload_n G (decAt dd_RC_isInstruction 5 rfl) rfl ?_
      refine v_geta G (decAt dd_RC_isInstruction 6 rfl) f_RC_17 ?_
      refine v_iload_n G (decAt dd_RC_isInstruction 7 rfl) rfl ?_
      refine v_iald G 1 _ (decAt dd_RC_isInstruction 8 rfl) (by decide) rfl (by first | with_reducible rfl | with_reducible exact nI_1 _ | with_reducible exact nI_add _ _ | assumption) (by omega) ?_
      refine v_ri (y := a) hAe ?_
      refine v_istore_3 G (decAt dd_RC_isInstruction 9 rfl) (by decide) rfl ?_
      refine v_iload_n G (decAt dd_RC_isInstruction 10 rfl) rfl ?_
      refine v_if_lt G 24 (decAt dd_RC_isInstruction 11 rfl) (by decide) (fun c15 => absurd c15 (by decide)) (fun _ => ?_)
      refine v_iload_n G (decAt dd_RC_isInstruction 12 rfl) rfl ?_
      refine v_bipush G 20 (decAt dd_RC_isInstruction 13 rfl) (by decide) ?_
      refine v_icmp_le G 26 (decAt dd_RC_isInstruction 14 rfl) (by decide) (fun _ => ?_) (fun c21 => absurd c21 (by decide))
      refine v_iload_n G (decAt dd_RC_isInstruction 17 rfl) rfl ?_
      refine v_iconst G 1 (decAt dd_RC_isInstruction 18 rfl) (by decide) ?_
      refine v_icmp_eq G 36 (decAt dd_RC_isInstruction 19 rfl) (by decide) (fun c28 => absurd c28 (by decide)) (fun _ => ?_)
      refine v_iload_n G (decAt dd_RC_isInstruction 20 rfl) rfl ?_
      refine v_iconst G 2 (decAt dd_RC_isInstruction 21 rfl) (by decide) ?_
      refine v_icmp_ne G 52 (decAt dd_RC_isInstruction 22 rfl) (by decide) (fun _ => ?_) (fun c33 => absurd c33 (by decide))
      refine v_iload_n G (decAt dd_RC_isInstruction 32 rfl) rfl ?_
      refine v_bipush G 7 (decAt dd_RC_isInstruction 33 rfl) (by decide) ?_
      refine v_icmp_ne G 74 (decAt dd_RC_isInstruction 34 rfl) (by decide) (fun _ => ?_) (fun c55 => absurd c55 (by decide))
      refine v_iload_n G (decAt dd_RC_isInstruction 44 rfl) rfl ?_
      refine v_bipush G 8 (decAt dd_RC_isInstruction 45 rfl) (by decide) ?_
      refine v_icmp_eq G 86 (decAt dd_RC_isInstruction 46 rfl) (by decide) (fun c77 => absurd c77 (by decide)) (fun _ => ?_)
      refine v_iload_n G (decAt dd_RC_isInstruction 47 rfl) rfl ?_
      refine v_bipush G 9 (decAt dd_RC_isInstruction 48 rfl) (by decide) ?_
      refine v_icmp_ne G 101 (decAt dd_RC_isInstruction 49 rfl) (by decide) (fun _ => ?_) (fun c83 => absurd c83 (by decide))
      refine v_iload_n G (decAt dd_RC_isInstruction 59 rfl) rfl ?_
      refine v_bipush G 10 (decAt dd_RC_isInstruction 60 rfl) (by decide) ?_
      refine v_icmp_lt G 129 (decAt dd_RC_isInstruction 61 rfl) (by decide) (fun c104 => absurd c104 (by decide)) (fun _ => ?_)
      refine v_iload_n G (decAt dd_RC_isInstruction 62 rfl) rfl ?_
      refine v_bipush G 13 (decAt dd_RC_isInstruction 63 rfl) (by decide) ?_
      refine v_icmp_gt G 129 (decAt dd_RC_isInstruction 64 rfl) (by decide) (fun _ => ?_) (fun c110 => absurd c110 (by decide))
      refine v_iload_n G (decAt dd_RC_isInstruction 74 rfl) rfl ?_
      refine v_bipush G 18 (decAt dd_RC_isInstruction 75 rfl) (by decide) ?_
      refine v_icmp_ne G 158 (decAt dd_RC_isInstruction 76 rfl) (by decide) (fun _ => ?_) (fun c132 => absurd c132 (by decide))
      refine v_iconst G 1 (decAt dd_RC_isInstruction 91 rfl) (by decide) ?_
      refine v_goto G 163 (decAt dd_RC_isInstruction 92 rfl) (by decide) ?_
      exact v_zret G (decAt dd_RC_isInstruction 94 rfl) rfl rfl ⟨true, rfl, ⟨fun _ => ⟨by show good1 (A 0 k) (A 1 k) = true; rw [hNe, hAe]; exact decide_eq_true (show (0 : Int32) ≤ nI 14 ∧ nI 14 ≤ 20 from by decide), Or.inl (by rw [hNe]; decide)⟩, fun _ => rfl⟩, rfl, rfl, rfl, rfl, rfl⟩
    · skip
      refine v_aload_n G (decAt dd_RC_isInstruction 0 rfl) rfl ?_
      refine v_geta G (decAt dd_RC_isInstruction 1 rfl) f_RC_13 ?_
      refine v_iload_n G (decAt dd_RC_isInstruction 2 rfl) rfl ?_
      refine v_iald G 0 _ (decAt dd_RC_isInstruction 3 rfl) (by decide) rfl (by first | with_reducible rfl | with_reducible exact nI_1 _ | with_reducible exact nI_add _ _ | assumption) (by omega) ?_
      refine v_ri (y := nI 15) hNe ?_
      refine v_istore_2 G (decAt dd_RC_isInstruction 4 rfl) (by decide) rfl ?_
      refine v_aload_n G (decAt dd_RC_isInstruction 5 rfl) rfl ?_
      refine v_geta G (decAt dd_RC_isInstruction 6 rfl) f_RC_17 ?_
      refine v_iload_n G (decAt dd_RC_isInstruction 7 rfl) rfl ?_
      refine v_iald G 1 _ (decAt dd_RC_isInstruction 8 rfl) (by decide) rfl (by first | with_reducible rfl | with_reducible exact nI_1 _ | with_reducible exact nI_add _ _ | assumption) (by omega) ?_
      refine v_ri (y := a) hAe ?_
      refine v_istore_3 G (decAt dd_RC_isInstruction 9 rfl) (by decide) rfl ?_
      refine v_iload_n G (decAt dd_RC_isInstruction 10 rfl) rfl ?_
      refine v_if_lt G 24 (decAt dd_RC_isInstruction 11 rfl) (by decide) (fun c15 => absurd c15 (by decide)) (fun _ => ?_)
      refine v_iload_n G (decAt dd_RC_isInstruction 12 rfl) rfl ?_
      refine v_bipush G 20 (decAt dd_RC_isInstruction 13 rfl) (by decide) ?_
      refine v_icmp_le G 26 (decAt dd_RC_isInstruction 14 rfl) (by decide) (fun _ => ?_) (fun c21 => absurd c21 (by decide))
      refine v_iload_n G (decAt dd_RC_isInstruction 17 rfl) rfl ?_
      refine v_iconst G 1 (decAt dd_RC_isInstruction 18 rfl) (by decide) ?_
      refine v_icmp_eq G 36 (decAt dd_RC_isInstruction 19 rfl) (by decide) (fun c28 => absurd c28 (by decide)) (fun _ => ?_)
      refine v_iload_n G (decAt dd_RC_isInstruction 20 rfl) rfl ?_
      refine v_iconst G 2 (decAt dd_RC_isInstruction 21 rfl) (by decide) ?_
      refine v_icmp_ne G 52 (decAt dd_RC_isInstruction 22 rfl) (by decide) (fun _ => ?_) (fun c33 => absurd c33 (by decide))
      refine v_iload_n G (decAt dd_RC_isInstruction 32 rfl) rfl ?_
      refine v_bipush G 7 (decAt dd_RC_isInstruction 33 rfl) (by decide) ?_
      refine v_icmp_ne G 74 (decAt dd_RC_isInstruction 34 rfl) (by decide) (fun _ => ?_) (fun c55 => absurd c55 (by decide))
      refine v_iload_n G (decAt dd_RC_isInstruction 44 rfl) rfl ?_
      refine v_bipush G 8 (decAt dd_RC_isInstruction 45 rfl) (by decide) ?_
      refine v_icmp_eq G 86 (decAt dd_RC_isInstruction 46 rfl) (by decide) (fun c77 => absurd c77 (by decide)) (fun _ => ?_)
      refine v_iload_n G (decAt dd_RC_isInstruction 47 rfl) rfl ?_
      refine v_bipush G 9 (decAt dd_RC_isInstruction 48 rfl) (by decide) ?_
      refine v_icmp_ne G 101 (decAt dd_RC_isInstruction 49 rfl) (by decide) (fun _ => ?_) (fun c83 => absurd c83 (by decide))
      refine v_iload_n G (decAt dd_RC_isInstruction 59 rfl) rfl ?_
      refine v_bipush G 10 (decAt dd_RC_isInstruction 60 rfl) (by decide) ?_
      refine v_icmp_lt G 129 (decAt dd_RC_isInstruction 61 rfl) (by decide) (fun c104 => absurd c104 (by decide)) (fun _ => ?_)
      refine v_iload_n G (decAt dd_RC_isInstruction 62 rfl) rfl ?_
      refine v_bipush G 13 (decAt dd_RC_isInstruction 63 rfl) (by decide) ?_
      refine v_icmp_gt G 129 (decAt dd_RC_isInstruction 64 rfl) (by decide) (fun _ => ?_) (fun c110 => absurd c110 (by decide))
      refine v_iload_n G (decAt dd_RC_isInstruction 74 rfl) rfl ?_
      refine v_bipush G 18 (decAt dd_RC_isInstruction 75 rfl) (by decide) ?_
      refine v_icmp_ne G 158 (decAt dd_RC_isInstruction 76 rfl) (by decide) (fun _ => ?_) (fun c132 => absurd c132 (by decide))
      refine v_iconst G 1 (decAt dd_RC_isInstruction 91 rfl) (by decide) ?_
      refine v_goto G 163 (decAt dd_RC_isInstruction 92 rfl) (by decide) ?_
      exact v_zret G (decAt dd_RC_isInstruction 94 rfl) rfl rfl ⟨true, rfl, ⟨fun _ => ⟨by show good1 (A 0 k) (A 1 k) = true; rw [hNe, hAe]; exact decide_eq_true (show (0 : Int32) ≤ nI 15 ∧ nI 15 ≤ 20 from by decide), Or.inl (by rw [hNe]; decide)⟩, fun _ => rfl⟩, rfl, rfl, rfl, rfl, rfl⟩
    · skip
      refine v_aload_n G (decAt dd_RC_isInstruction 0 rfl) rfl ?_
      refine v_geta G (decAt dd_RC_isInstruction 1 rfl) f_RC_13 ?_
      refine v_iload_n G (decAt dd_RC_isInstruction 2 rfl) rfl ?_
      refine v_iald G 0 _ (decAt dd_RC_isInstruction 3 rfl) (by decide) rfl (by first | with_reducible rfl | with_reducible exact nI_1 _ | with_reducible exact nI_add _ _ | assumption) (by omega) ?_
      refine v_ri (y := nI 16) hNe ?_
      refine v_istore_2 G (decAt dd_RC_isInstruction 4 rfl) (by decide) rfl ?_
      refine v_aload_n G (decAt dd_RC_isInstruction 5 rfl) rfl ?_
      refine v_geta G (decAt dd_RC_isInstruction 6 rfl) f_RC_17 ?_
      refine v_iload_n G (decAt dd_RC_isInstruction 7 rfl) rfl ?_
      refine v_iald G 1 _ (decAt dd_RC_isInstruction 8 rfl) (by decide) rfl (by first | with_reducible rfl | with_reducible exact nI_1 _ | with_reducible exact nI_add _ _ | assumption) (by omega) ?_
      refine v_ri (y := a) hAe ?_
      refine v_istore_3 G (decAt dd_RC_isInstruction 9 rfl) (by decide) rfl ?_
      refine v_iload_n G (decAt dd_RC_isInstruction 10 rfl) rfl ?_
      refine v_if_lt G 24 (decAt dd_RC_isInstruction 11 rfl) (by decide) (fun c15 => absurd c15 (by decide)) (fun _ => ?_)
      refine v_iload_n G (decAt dd_RC_isInstruction 12 rfl) rfl ?_
      refine v_bipush G 20 (decAt dd_RC_isInstruction 13 rfl) (by decide) ?_
      refine v_icmp_le G 26 (decAt dd_RC_isInstruction 14 rfl) (by decide) (fun _ => ?_) (fun c21 => absurd c21 (by decide))
      refine v_iload_n G (decAt dd_RC_isInstruction 17 rfl) rfl ?_
      refine v_iconst G 1 (decAt dd_RC_isInstruction 18 rfl) (by decide) ?_
      refine v_icmp_eq G 36 (decAt dd_RC_isInstruction 19 rfl) (by decide) (fun c28 => absurd c28 (by decide)) (fun _ => ?_)
      refine v_iload_n G (decAt dd_RC_isInstruction 20 rfl) rfl ?_
      refine v_iconst G 2 (decAt dd_RC_isInstruction 21 rfl) (by decide) ?_
      refine v_icmp_ne G 52 (decAt dd_RC_isInstruction 22 rfl) (by decide) (fun _ => ?_) (fun c33 => absurd c33 (by decide))
      refine v_iload_n G (decAt dd_RC_isInstruction 32 rfl) rfl ?_
      refine v_bipush G 7 (decAt dd_RC_isInstruction 33 rfl) (by decide) ?_
      refine v_icmp_ne G 74 (decAt dd_RC_isInstruction 34 rfl) (by decide) (fun _ => ?_) (fun c55 => absurd c55 (by decide))
      refine v_iload_n G (decAt dd_RC_isInstruction 44 rfl) rfl ?_
      refine v_bipush G 8 (decAt dd_RC_isInstruction 45 rfl) (by decide) ?_
      refine v_icmp_eq G 86 (decAt dd_RC_isInstruction 46 rfl) (by decide) (fun c77 => absurd c77 (by decide)) (fun _ => ?_)
      refine v_iload_n G (decAt dd_RC_isInstruction 47 rfl) rfl ?_
      refine v_bipush G 9 (decAt dd_RC_isInstruction 48 rfl) (by decide) ?_
      refine v_icmp_ne G 101 (decAt dd_RC_isInstruction 49 rfl) (by decide) (fun _ => ?_) (fun c83 => absurd c83 (by decide))
      refine v_iload_n G (decAt dd_RC_isInstruction 59 rfl) rfl ?_
      refine v_bipush G 10 (decAt dd_RC_isInstruction 60 rfl) (by decide) ?_
      refine v_icmp_lt G 129 (decAt dd_RC_isInstruction 61 rfl) (by decide) (fun c104 => absurd c104 (by decide)) (fun _ => ?_)
      refine v_iload_n G (decAt dd_RC_isInstruction 62 rfl) rfl ?_
      refine v_bipush G 13 (decAt dd_RC_isInstruction 63 rfl) (by decide) ?_
      refine v_icmp_gt G 129 (decAt dd_RC_isInstruction 64 rfl) (by decide) (fun _ => ?_) (fun c110 => absurd c110 (by decide))
      refine v_iload_n G (decAt dd_RC_isInstruction 74 rfl) rfl ?_
      refine v_bipush G 18 (decAt dd_RC_isInstruction 75 rfl) (by decide) ?_
      refine v_icmp_ne G 158 (decAt dd_RC_isInstruction 76 rfl) (by decide) (fun _ => ?_) (fun c132 => absurd c132 (by decide))
      refine v_iconst G 1 (decAt dd_RC_isInstruction 91 rfl) (by decide) ?_
      refine v_goto G 163 (decAt dd_RC_isInstruction 92 rfl) (by decide) ?_
      exact v_zret G (decAt dd_RC_isInstruction 94 rfl) rfl rfl ⟨true, rfl, ⟨fun _ => ⟨by show good1 (A 0 k) (A 1 k) = true; rw [hNe, hAe]; exact decide_eq_true (show (0 : Int32) ≤ nI 16 ∧ nI 16 ≤ 20 from by decide), Or.inl (by rw [hNe]; decide)⟩, fun _ => rfl⟩, rfl, rfl, rfl, rfl, rfl⟩
    · skip
      refine v_aload_n G (decAt dd_RC_isInstruction 0 rfl) rfl ?_
      refine v_geta G (decAt dd_RC_isInstruction 1 rfl) f_RC_13 ?_
      refine v_iload_n G (decAt dd_RC_isInstruction 2 rfl) rfl ?_
      refine v_iald G 0 _ (decAt dd_RC_isInstruction 3 rfl) (by decide) rfl (by first | with_reducible rfl | with_reducible exact nI_1 _ | with_reducible exact nI_add _ _ | assumption) (by omega) ?_
      refine v_ri (y := nI 17) hNe ?_
      refine v_istore_2 G (decAt dd_RC_isInstruction 4 rfl) (by decide) rfl ?_
      refine v_aload_n G (decAt dd_RC_isInstruction 5 rfl) rfl ?_
      refine v_geta G (decAt dd_RC_isInstruction 6 rfl) f_RC_17 ?_
      refine v_iload_n G (decAt dd_RC_isInstruction 7 rfl) rfl ?_
      refine v_iald G 1 _ (decAt dd_RC_isInstruction 8 rfl) (by decide) rfl (by first | with_reducible rfl | with_reducible exact nI_1 _ | with_reducible exact nI_add _ _ | assumption) (by omega) ?_
      refine v_ri (y := a) hAe ?_
      refine v_istore_3 G (decAt dd_RC_isInstruction 9 rfl) (by decide) rfl ?_
      refine v_iload_n G (decAt dd_RC_isInstruction 10 rfl) rfl ?_
      refine v_if_lt G 24 (decAt dd_RC_isInstruction 11 rfl) (by decide) (fun c15 => absurd c15 (by decide)) (fun _ => ?_)
      refine v_iload_n G (decAt dd_RC_isInstruction 12 rfl) rfl ?_
      refine v_bipush G 20 (decAt dd_RC_isInstruction 13 rfl) (by decide) ?_
      refine v_icmp_le G 26 (decAt dd_RC_isInstruction 14 rfl) (by decide) (fun _ => ?_) (fun c21 => absurd c21 (by decide))
      refine v_iload_n G (decAt dd_RC_isInstruction 17 rfl) rfl ?_
      refine v_iconst G 1 (decAt dd_RC_isInstruction 18 rfl) (by decide) ?_
      refine v_icmp_eq G 36 (decAt dd_RC_isInstruction 19 rfl) (by decide) (fun c28 => absurd c28 (by decide)) (fun _ => ?_)
      refine v_iload_n G (decAt dd_RC_isInstruction 20 rfl) rfl ?_
      refine v_iconst G 2 (decAt dd_RC_isInstruction 21 rfl) (by decide) ?_
      refine v_icmp_ne G 52 (decAt dd_RC_isInstruction 22 rfl) (by decide) (fun _ => ?_) (fun c33 => absurd c33 (by decide))
      refine v_iload_n G (decAt dd_RC_isInstruction 32 rfl) rfl ?_
      refine v_bipush G 7 (decAt dd_RC_isInstruction 33 rfl) (by decide) ?_
      refine v_icmp_ne G 74 (decAt dd_RC_isInstruction 34 rfl) (by decide) (fun _ => ?_) (fun c55 => absurd c55 (by decide))
      refine v_iload_n G (decAt dd_RC_isInstruction 44 rfl) rfl ?_
      refine v_bipush G 8 (decAt dd_RC_isInstruction 45 rfl) (by decide) ?_
      refine v_icmp_eq G 86 (decAt dd_RC_isInstruction 46 rfl) (by decide) (fun c77 => absurd c77 (by decide)) (fun _ => ?_)
      refine v_iload_n G (decAt dd_RC_isInstruction 47 rfl) rfl ?_
      refine v_bipush G 9 (decAt dd_RC_isInstruction 48 rfl) (by decide) ?_
      refine v_icmp_ne G 101 (decAt dd_RC_isInstruction 49 rfl) (by decide) (fun _ => ?_) (fun c83 => absurd c83 (by decide))
      refine v_iload_n G (decAt dd_RC_isInstruction 59 rfl) rfl ?_
      refine v_bipush G 10 (decAt dd_RC_isInstruction 60 rfl) (by decide) ?_
      refine v_icmp_lt G 129 (decAt dd_RC_isInstruction 61 rfl) (by decide) (fun c104 => absurd c104 (by decide)) (fun _ => ?_)
      refine v_iload_n G (decAt dd_RC_isInstruction 62 rfl) rfl ?_
      refine v_bipush G 13 (decAt dd_RC_isInstruction 63 rfl) (by decide) ?_
      refine v_icmp_gt G 129 (decAt dd_RC_isInstruction 64 rfl) (by decide) (fun _ => ?_) (fun c110 => absurd c110 (by decide))
      refine v_iload_n G (decAt dd_RC_isInstruction 74 rfl) rfl ?_
      refine v_bipush G 18 (decAt dd_RC_isInstruction 75 rfl) (by decide) ?_
      refine v_icmp_ne G 158 (decAt dd_RC_isInstruction 76 rfl) (by decide) (fun _ => ?_) (fun c132 => absurd c132 (by decide))
      refine v_iconst G 1 (decAt dd_RC_isInstruction 91 rfl) (by decide) ?_
      refine v_goto G 163 (decAt dd_RC_isInstruction 92 rfl) (by decide) ?_
      exact v_zret G (decAt dd_RC_isInstruction 94 rfl) rfl rfl ⟨true, rfl, ⟨fun _ => ⟨by show good1 (A 0 k) (A 1 k) = true; rw [hNe, hAe]; exact decide_eq_true (show (0 : Int32) ≤ nI 17 ∧ nI 17 ≤ 20 from by decide), Or.inl (by rw [hNe]; decide)⟩, fun _ => rfl⟩, rfl, rfl, rfl, rfl, rfl⟩
    · skip
      refine v_aload_n G (decAt dd_RC_isInstruction 0 rfl) rfl ?_
      refine v_geta G (decAt dd_RC_isInstruction 1 rfl) f_RC_13 ?_
      refine v_iload_n G (decAt dd_RC_isInstruction 2 rfl) rfl ?_
      refine v_iald G 0 _ (decAt dd_RC_isInstruction 3 rfl) (by decide) rfl (by first | with_reducible rfl | with_reducible exact nI_1 _ | with_reducible exact nI_add _ _ | assumption) (by omega) ?_
      refine v_ri (y := nI 18) hNe ?_
      refine v_istore_2 G (decAt dd_RC_isInstruction 4 rfl) (by decide) rfl ?_
      refine v_aload_n G (decAt dd_RC_isInstruction 5 rfl) rfl ?_
      refine v_geta G (decAt dd_RC_isInstruction 6 rfl) f_RC_17 ?_
      refine v_iload_n G (decAt dd_RC_isInstruction 7 rfl) rfl ?_
      refine v_iald G 1 _ (decAt dd_RC_isInstruction 8 rfl) (by decide) rfl (by first | with_reducible rfl | with_reducible exact nI_1 _ | with_reducible exact nI_add _ _ | assumption) (by omega) ?_
      refine v_ri (y := a) hAe ?_
      refine v_istore_3 G (decAt dd_RC_isInstruction 9 rfl) (by decide) rfl ?_
      refine v_iload_n G (decAt dd_RC_isInstruction 10 rfl) rfl ?_
      refine v_if_lt G 24 (decAt dd_RC_isInstruction 11 rfl) (by decide) (fun c15 => absurd c15 (by decide)) (fun _ => ?_)
      refine v_iload_n G (decAt dd_RC_isInstruction 12 rfl) rfl ?_
      refine v_bipush G 20 (decAt dd_RC_isInstruction 13 rfl) (by decide) ?_
      refine v_icmp_le G 26 (decAt dd_RC_isInstruction 14 rfl) (by decide) (fun _ => ?_) (fun c21 => absurd c21 (by decide))
      refine v_iload_n G (decAt dd_RC_isInstruction 17 rfl) rfl ?_
      refine v_iconst G 1 (decAt dd_RC_isInstruction 18 rfl) (by decide) ?_
      refine v_icmp_eq G 36 (decAt dd_RC_isInstruction 19 rfl) (by decide) (fun c28 => absurd c28 (by decide)) (fun _ => ?_)
      refine v_iload_n G (decAt dd_RC_isInstruction 20 rfl) rfl ?_
      refine v_iconst G 2 (decAt dd_RC_isInstruction 21 rfl) (by decide) ?_
      refine v_icmp_ne G 52 (decAt dd_RC_isInstruction 22 rfl) (by decide) (fun _ => ?_) (fun c33 => absurd c33 (by decide))
      refine v_iload_n G (decAt dd_RC_isInstruction 32 rfl) rfl ?_
      refine v_bipush G 7 (decAt dd_RC_isInstruction 33 rfl) (by decide) ?_
      refine v_icmp_ne G 74 (decAt dd_RC_isInstruction 34 rfl) (by decide) (fun _ => ?_) (fun c55 => absurd c55 (by decide))
      refine v_iload_n G (decAt dd_RC_isInstruction 44 rfl) rfl ?_
      refine v_bipush G 8 (decAt dd_RC_isInstruction 45 rfl) (by decide) ?_
      refine v_icmp_eq G 86 (decAt dd_RC_isInstruction 46 rfl) (by decide) (fun c77 => absurd c77 (by decide)) (fun _ => ?_)
      refine v_iload_n G (decAt dd_RC_isInstruction 47 rfl) rfl ?_
      refine v_bipush G 9 (decAt dd_RC_isInstruction 48 rfl) (by decide) ?_
      refine v_icmp_ne G 101 (decAt dd_RC_isInstruction 49 rfl) (by decide) (fun _ => ?_) (fun c83 => absurd c83 (by decide))
      refine v_iload_n G (decAt dd_RC_isInstruction 59 rfl) rfl ?_
      refine v_bipush G 10 (decAt dd_RC_isInstruction 60 rfl) (by decide) ?_
      refine v_icmp_lt G 129 (decAt dd_RC_isInstruction 61 rfl) (by decide) (fun c104 => absurd c104 (by decide)) (fun _ => ?_)
      refine v_iload_n G (decAt dd_RC_isInstruction 62 rfl) rfl ?_
      refine v_bipush G 13 (decAt dd_RC_isInstruction 63 rfl) (by decide) ?_
      refine v_icmp_gt G 129 (decAt dd_RC_isInstruction 64 rfl) (by decide) (fun _ => ?_) (fun c110 => absurd c110 (by decide))
      refine v_iload_n G (decAt dd_RC_isInstruction 74 rfl) rfl ?_
      refine v_bipush G 18 (decAt dd_RC_isInstruction 75 rfl) (by decide) ?_
      refine v_icmp_ne G 158 (decAt dd_RC_isInstruction 76 rfl) (by decide) (fun c132 => absurd c132 (by decide)) (fun _ => ?_)
      refine v_iload_n G (decAt dd_RC_isInstruction 77 rfl) rfl ?_
      refine v_iconst G 1 (decAt dd_RC_isInstruction 78 rfl) (by decide) ?_
      refine v_iadd G (decAt dd_RC_isInstruction 79 rfl) ?_
      refine v_aload_n G (decAt dd_RC_isInstruction 80 rfl) rfl ?_
      refine v_geti G (decAt dd_RC_isInstruction 81 rfl) f_RC_75 ?_
      refine v_ri (y := (nI sz)) hs ?_
      refine v_icmp_ge G 162 (decAt dd_RC_isInstruction 82 rfl) (by decide) (fun c142 => ?_) (fun c142 => ?_)
      · skip
        refine v_iconst G 0 (decAt dd_RC_isInstruction 93 rfl) (by decide) ?_
        exact v_zret G (decAt dd_RC_isInstruction 94 rfl) rfl rfl ⟨false, rfl, ⟨fun q => (by cases q), fun q => by
          have q2 := q.2.resolve_left (fun z => z hNe)
          first | exact absurd q2.2 c155 | exact absurd c142 (by rw [show nI k + 1 = nI (k + 1) from nI_1 k]; exact nI_ge q2.1 (by omega))⟩, rfl, rfl, rfl, rfl, rfl⟩
      · skip
        have c142 : k + 1 < sz := Nat.lt_of_not_le fun z => c142 (by rw [show nI k + 1 = nI (k + 1) from nI_1 k]; exact nI_le z (by omega))
        refine v_aload_n G (decAt dd_RC_isInstruction 83 rfl) rfl ?_
        refine v_geta G (decAt dd_RC_isInstruction 84 rfl) f_RC_13 ?_
        refine v_iload_n G (decAt dd_RC_isInstruction 85 rfl) rfl ?_
        refine v_iconst G 1 (decAt dd_RC_isInstruction 86 rfl) (by decide) ?_
        refine v_iadd G (decAt dd_RC_isInstruction 87 rfl) ?_
        refine v_iald G 0 (k + 1) (decAt dd_RC_isInstruction 88 rfl) (by decide) rfl (nI_1 k) (by omega) ?_
        refine v_bipush G 12 (decAt dd_RC_isInstruction 89 rfl) (by decide) ?_
        refine v_icmp_ne G 162 (decAt dd_RC_isInstruction 90 rfl) (by decide) (fun c155 => ?_) (fun c155 => ?_)
        · skip
          refine v_iconst G 0 (decAt dd_RC_isInstruction 93 rfl) (by decide) ?_
          exact v_zret G (decAt dd_RC_isInstruction 94 rfl) rfl rfl ⟨false, rfl, ⟨fun q => (by cases q), fun q => by
            have q2 := q.2.resolve_left (fun z => z hNe)
            first | exact absurd q2.2 c155 | exact absurd c142 (by rw [show nI k + 1 = nI (k + 1) from nI_1 k]; exact nI_ge q2.1 (by omega))⟩, rfl, rfl, rfl, rfl, rfl⟩
        · skip
          refine v_iconst G 1 (decAt dd_RC_isInstruction 91 rfl) (by decide) ?_
          refine v_goto G 163 (decAt dd_RC_isInstruction 92 rfl) (by decide) ?_
          exact v_zret G (decAt dd_RC_isInstruction 94 rfl) rfl rfl ⟨true, rfl, ⟨fun _ => ⟨by show good1 (A 0 k) (A 1 k) = true; rw [hNe, hAe]; exact decide_eq_true (show (0 : Int32) ≤ nI 18 ∧ nI 18 ≤ 20 from by decide), Or.inr ⟨c142, c155⟩⟩, fun _ => rfl⟩, rfl, rfl, rfl, rfl, rfl⟩
    · skip
      refine v_aload_n G (decAt dd_RC_isInstruction 0 rfl) rfl ?_
      refine v_geta G (decAt dd_RC_isInstruction 1 rfl) f_RC_13 ?_
      refine v_iload_n G (decAt dd_RC_isInstruction 2 rfl) rfl ?_
      refine v_iald G 0 _ (decAt dd_RC_isInstruction 3 rfl) (by decide) rfl (by first | with_reducible rfl | with_reducible exact nI_1 _ | with_reducible exact nI_add _ _ | assumption) (by omega) ?_
      refine v_ri (y := nI 19) hNe ?_
      refine v_istore_2 G (decAt dd_RC_isInstruction 4 rfl) (by decide) rfl ?_
      refine v_aload_n G (decAt dd_RC_isInstruction 5 rfl) rfl ?_
      refine v_geta G (decAt dd_RC_isInstruction 6 rfl) f_RC_17 ?_
      refine v_iload_n G (decAt dd_RC_isInstruction 7 rfl) rfl ?_
      refine v_iald G 1 _ (decAt dd_RC_isInstruction 8 rfl) (by decide) rfl (by first | with_reducible rfl | with_reducible exact nI_1 _ | with_reducible exact nI_add _ _ | assumption) (by omega) ?_
      refine v_ri (y := a) hAe ?_
      refine v_istore_3 G (decAt dd_RC_isInstruction 9 rfl) (by decide) rfl ?_
      refine v_iload_n G (decAt dd_RC_isInstruction 10 rfl) rfl ?_
      refine v_if_lt G 24 (decAt dd_RC_isInstruction 11 rfl) (by decide) (fun c15 => absurd c15 (by decide)) (fun _ => ?_)
      refine v_iload_n G (decAt dd_RC_isInstruction 12 rfl) rfl ?_
      refine v_bipush G 20 (decAt dd_RC_isInstruction 13 rfl) (by decide) ?_
      refine v_icmp_le G 26 (decAt dd_RC_isInstruction 14 rfl) (by decide) (fun _ => ?_) (fun c21 => absurd c21 (by decide))
      refine v_iload_n G (decAt dd_RC_isInstruction 17 rfl) rfl ?_
      refine v_iconst G 1 (decAt dd_RC_isInstruction 18 rfl) (by decide) ?_
      refine v_icmp_eq G 36 (decAt dd_RC_isInstruction 19 rfl) (by decide) (fun c28 => absurd c28 (by decide)) (fun _ => ?_)
      refine v_iload_n G (decAt dd_RC_isInstruction 20 rfl) rfl ?_
      refine v_iconst G 2 (decAt dd_RC_isInstruction 21 rfl) (by decide) ?_
      refine v_icmp_ne G 52 (decAt dd_RC_isInstruction 22 rfl) (by decide) (fun _ => ?_) (fun c33 => absurd c33 (by decide))
      refine v_iload_n G (decAt dd_RC_isInstruction 32 rfl) rfl ?_
      refine v_bipush G 7 (decAt dd_RC_isInstruction 33 rfl) (by decide) ?_
      refine v_icmp_ne G 74 (decAt dd_RC_isInstruction 34 rfl) (by decide) (fun _ => ?_) (fun c55 => absurd c55 (by decide))
      refine v_iload_n G (decAt dd_RC_isInstruction 44 rfl) rfl ?_
      refine v_bipush G 8 (decAt dd_RC_isInstruction 45 rfl) (by decide) ?_
      refine v_icmp_eq G 86 (decAt dd_RC_isInstruction 46 rfl) (by decide) (fun c77 => absurd c77 (by decide)) (fun _ => ?_)
      refine v_iload_n G (decAt dd_RC_isInstruction 47 rfl) rfl ?_
      refine v_bipush G 9 (decAt dd_RC_isInstruction 48 rfl) (by decide) ?_
      refine v_icmp_ne G 101 (decAt dd_RC_isInstruction 49 rfl) (by decide) (fun _ => ?_) (fun c83 => absurd c83 (by decide))
      refine v_iload_n G (decAt dd_RC_isInstruction 59 rfl) rfl ?_
      refine v_bipush G 10 (decAt dd_RC_isInstruction 60 rfl) (by decide) ?_
      refine v_icmp_lt G 129 (decAt dd_RC_isInstruction 61 rfl) (by decide) (fun c104 => absurd c104 (by decide)) (fun _ => ?_)
      refine v_iload_n G (decAt dd_RC_isInstruction 62 rfl) rfl ?_
      refine v_bipush G 13 (decAt dd_RC_isInstruction 63 rfl) (by decide) ?_
      refine v_icmp_gt G 129 (decAt dd_RC_isInstruction 64 rfl) (by decide) (fun _ => ?_) (fun c110 => absurd c110 (by decide))
      refine v_iload_n G (decAt dd_RC_isInstruction 74 rfl) rfl ?_
      refine v_bipush G 18 (decAt dd_RC_isInstruction 75 rfl) (by decide) ?_
      refine v_icmp_ne G 158 (decAt dd_RC_isInstruction 76 rfl) (by decide) (fun _ => ?_) (fun c132 => absurd c132 (by decide))
      refine v_iconst G 1 (decAt dd_RC_isInstruction 91 rfl) (by decide) ?_
      refine v_goto G 163 (decAt dd_RC_isInstruction 92 rfl) (by decide) ?_
      exact v_zret G (decAt dd_RC_isInstruction 94 rfl) rfl rfl ⟨true, rfl, ⟨fun _ => ⟨by show good1 (A 0 k) (A 1 k) = true; rw [hNe, hAe]; exact decide_eq_true (show (0 : Int32) ≤ nI 19 ∧ nI 19 ≤ 20 from by decide), Or.inl (by rw [hNe]; decide)⟩, fun _ => rfl⟩, rfl, rfl, rfl, rfl, rfl⟩
    · skip
      refine v_aload_n G (decAt dd_RC_isInstruction 0 rfl) rfl ?_
      refine v_geta G (decAt dd_RC_isInstruction 1 rfl) f_RC_13 ?_
      refine v_iload_n G (decAt dd_RC_isInstruction 2 rfl) rfl ?_
      refine v_iald G 0 _ (decAt dd_RC_isInstruction 3 rfl) (by decide) rfl (by first | with_reducible rfl | with_reducible exact nI_1 _ | with_reducible exact nI_add _ _ | assumption) (by omega) ?_
      refine v_ri (y := nI 20) hNe ?_
      refine v_istore_2 G (decAt dd_RC_isInstruction 4 rfl) (by decide) rfl ?_
      refine v_aload_n G (decAt dd_RC_isInstruction 5 rfl) rfl ?_
      refine v_geta G (decAt dd_RC_isInstruction 6 rfl) f_RC_17 ?_
      refine v_iload_n G (decAt dd_RC_isInstruction 7 rfl) rfl ?_
      refine v_iald G 1 _ (decAt dd_RC_isInstruction 8 rfl) (by decide) rfl (by first | with_reducible rfl | with_reducible exact nI_1 _ | with_reducible exact nI_add _ _ | assumption) (by omega) ?_
      refine v_ri (y := a) hAe ?_
      refine v_istore_3 G (decAt dd_RC_isInstruction 9 rfl) (by decide) rfl ?_
      refine v_iload_n G (decAt dd_RC_isInstruction 10 rfl) rfl ?_
      refine v_if_lt G 24 (decAt dd_RC_isInstruction 11 rfl) (by decide) (fun c15 => absurd c15 (by decide)) (fun _ => ?_)
      refine v_iload_n G (decAt dd_RC_isInstruction 12 rfl) rfl ?_
      refine v_bipush G 20 (decAt dd_RC_isInstruction 13 rfl) (by decide) ?_
      refine v_icmp_le G 26 (decAt dd_RC_isInstruction 14 rfl) (by decide) (fun _ => ?_) (fun c21 => absurd c21 (by decide))
      refine v_iload_n G (decAt dd_RC_isInstruction 17 rfl) rfl ?_
      refine v_iconst G 1 (decAt dd_RC_isInstruction 18 rfl) (by decide) ?_
      refine v_icmp_eq G 36 (decAt dd_RC_isInstruction 19 rfl) (by decide) (fun c28 => absurd c28 (by decide)) (fun _ => ?_)
      refine v_iload_n G (decAt dd_RC_isInstruction 20 rfl) rfl ?_
      refine v_iconst G 2 (decAt dd_RC_isInstruction 21 rfl) (by decide) ?_
      refine v_icmp_ne G 52 (decAt dd_RC_isInstruction 22 rfl) (by decide) (fun _ => ?_) (fun c33 => absurd c33 (by decide))
      refine v_iload_n G (decAt dd_RC_isInstruction 32 rfl) rfl ?_
      refine v_bipush G 7 (decAt dd_RC_isInstruction 33 rfl) (by decide) ?_
      refine v_icmp_ne G 74 (decAt dd_RC_isInstruction 34 rfl) (by decide) (fun _ => ?_) (fun c55 => absurd c55 (by decide))
      refine v_iload_n G (decAt dd_RC_isInstruction 44 rfl) rfl ?_
      refine v_bipush G 8 (decAt dd_RC_isInstruction 45 rfl) (by decide) ?_
      refine v_icmp_eq G 86 (decAt dd_RC_isInstruction 46 rfl) (by decide) (fun c77 => absurd c77 (by decide)) (fun _ => ?_)
      refine v_iload_n G (decAt dd_RC_isInstruction 47 rfl) rfl ?_
      refine v_bipush G 9 (decAt dd_RC_isInstruction 48 rfl) (by decide) ?_
      refine v_icmp_ne G 101 (decAt dd_RC_isInstruction 49 rfl) (by decide) (fun _ => ?_) (fun c83 => absurd c83 (by decide))
      refine v_iload_n G (decAt dd_RC_isInstruction 59 rfl) rfl ?_
      refine v_bipush G 10 (decAt dd_RC_isInstruction 60 rfl) (by decide) ?_
      refine v_icmp_lt G 129 (decAt dd_RC_isInstruction 61 rfl) (by decide) (fun c104 => absurd c104 (by decide)) (fun _ => ?_)
      refine v_iload_n G (decAt dd_RC_isInstruction 62 rfl) rfl ?_
      refine v_bipush G 13 (decAt dd_RC_isInstruction 63 rfl) (by decide) ?_
      refine v_icmp_gt G 129 (decAt dd_RC_isInstruction 64 rfl) (by decide) (fun _ => ?_) (fun c110 => absurd c110 (by decide))
      refine v_iload_n G (decAt dd_RC_isInstruction 74 rfl) rfl ?_
      refine v_bipush G 18 (decAt dd_RC_isInstruction 75 rfl) (by decide) ?_
      refine v_icmp_ne G 158 (decAt dd_RC_isInstruction 76 rfl) (by decide) (fun _ => ?_) (fun c132 => absurd c132 (by decide))
      refine v_iconst G 1 (decAt dd_RC_isInstruction 91 rfl) (by decide) ?_
      refine v_goto G 163 (decAt dd_RC_isInstruction 92 rfl) (by decide) ?_
      exact v_zret G (decAt dd_RC_isInstruction 94 rfl) rfl rfl ⟨true, rfl, ⟨fun _ => ⟨by show good1 (A 0 k) (A 1 k) = true; rw [hNe, hAe]; exact decide_eq_true (show (0 : Int32) ≤ nI 20 ∧ nI 20 ≤ 20 from by decide), Or.inl (by rw [hNe]; decide)⟩, fun _ => rfl⟩, rfl, rfl, rfl, rfl, rfl⟩
  · skip
    have hf : good1 (A 0 k) (A 1 k) = false := good1_out (by rw [hNe]; exact hm)
    refine v_aload_n G (decAt dd_RC_isInstruction 0 rfl) rfl ?_
    refine v_geta G (decAt dd_RC_isInstruction 1 rfl) f_RC_13 ?_
    refine v_iload_n G (decAt dd_RC_isInstruction 2 rfl) rfl ?_
    refine v_iald G 0 _ (decAt dd_RC_isInstruction 3 rfl) (by decide) rfl (by first | with_reducible rfl | with_reducible exact nI_1 _ | with_reducible exact nI_add _ _ | assumption) (by omega) ?_
    refine v_ri (y := N) hNe ?_
    refine v_istore_2 G (decAt dd_RC_isInstruction 4 rfl) (by decide) rfl ?_
    refine v_aload_n G (decAt dd_RC_isInstruction 5 rfl) rfl ?_
    refine v_geta G (decAt dd_RC_isInstruction 6 rfl) f_RC_17 ?_
    refine v_iload_n G (decAt dd_RC_isInstruction 7 rfl) rfl ?_
    refine v_iald G 1 _ (decAt dd_RC_isInstruction 8 rfl) (by decide) rfl (by first | with_reducible rfl | with_reducible exact nI_1 _ | with_reducible exact nI_add _ _ | assumption) (by omega) ?_
    refine v_ri (y := a) hAe ?_
    refine v_istore_3 G (decAt dd_RC_isInstruction 9 rfl) (by decide) rfl ?_
    refine v_iload_n G (decAt dd_RC_isInstruction 10 rfl) rfl ?_
    refine v_if_lt G 24 (decAt dd_RC_isInstruction 11 rfl) (by decide) (fun c15 => ?_) (fun c15 => ?_)
    · skip
      refine v_iconst G 0 (decAt dd_RC_isInstruction 15 rfl) (by decide) ?_
      exact v_zret G (decAt dd_RC_isInstruction 16 rfl) rfl rfl ⟨false, rfl, ⟨fun q => (by cases q), fun q => by have q1 : good1 (A 0 k) (A 1 k) = true := q.1; rw [hf] at q1; cases q1⟩, rfl, rfl, rfl, rfl, rfl⟩
    · skip
      refine v_iload_n G (decAt dd_RC_isInstruction 12 rfl) rfl ?_
      refine v_bipush G 20 (decAt dd_RC_isInstruction 13 rfl) (by decide) ?_
      refine v_icmp_le G 26 (decAt dd_RC_isInstruction 14 rfl) (by decide) (fun c21 => ?_) (fun c21 => ?_)
      · skip
        exact absurd c21 (fun z => hm (by obtain ⟨j, h1, h2⟩ := nI_of2 (n := 20) rfl c15 z; exact ⟨j, h1, h2⟩))
      · skip
        refine v_iconst G 0 (decAt dd_RC_isInstruction 15 rfl) (by decide) ?_
        exact v_zret G (decAt dd_RC_isInstruction 16 rfl) rfl rfl ⟨false, rfl, ⟨fun q => (by cases q), fun q => by have q1 : good1 (A 0 k) (A 1 k) = true := q.1; rw [hf] at q1; cases q1⟩, rfl, rfl, rfl, rfl, rfl⟩
set_option maxHeartbeats 4000000 in
theorem c_RC_areLabels (l : Launch) {E : Bs} (hE : Hb E) {ρ : Nat → Nat} {g A : Nat → Nat → Int32} {n : Nat → Nat} {tx : Value} {sz : Nat} (hn : RN n) (hs : g 0 2 = nI sz) (hsz : sz ≤ 400) : CW l E DC AC y_RC_areLabels b_RC_areLabels 2 (some .boolean) ({ frames := 1, cells := 0, slots := 0, locals := 23 } : Room) [.ref (E.o 0)] ρ g A n tx (fun r ρ' g' A' n' tx' => ∃ b : Bool, r = some (.int (bI b)) ∧ (b = true ↔ LabOK (A 0) (A 1) sz) ∧ (b = true → ∀ lab, lab < 100 → A' 2 lab = plcI (A 0) (A 1) sz (nI lab)) ∧ ρ' = ρ ∧ g' = g ∧ n' = n ∧ tx' = tx ∧ ∀ i, i ≠ 2 → A' i = A i) := by
  obtain ⟨hn0, hn1, hn2, hn3, hn4, hn5, hn6, hn7, hn8, hn9⟩ := hn
  refine CW.start [some (.ref (E.o 0)), none] hE (by decide) (Nat.le_of_ble_eq_true rfl) rfl ?_
  intro p e s m args below meth c G
  have J91 : ∀ (d i : Nat) (A1 : Nat → Nat → Int32), i + d = sz → (∀ i, i ≠ 2 → A1 i = A i) → LaI (A 0) (A 1) (A1 2) sz → (∀ j, j < sz → insOK (A 0) (A 1) sz j) → (∀ j, j < i → LabK (A 0) (A 1) sz j 2) → V p l e ({ frames := 1, cells := 0, slots := 0, locals := 23 } : Room) s m args below meth c 2 (Sy E DC AC s.heap ρ g A1 n tx) 0 0 (MQ below (QW E DC AC (fun r ρ' g' A' n' tx' => ∃ b : Bool, r = some (.int (bI b)) ∧ (b = true ↔ LabOK (A 0) (A 1) sz) ∧ (b = true → ∀ lab, lab < 100 → A' 2 lab = plcI (A 0) (A 1) sz (nI lab)) ∧ ρ' = ρ ∧ g' = g ∧ n' = n ∧ tx' = tx ∧ ∀ i, i ≠ 2 → A' i = A i)) args s 0 0 E.F) 91 [some (.ref (E.o 0)), some (.int (nI i))] [] := by
    intro d
    induction d with
    | zero =>
      intro i A1 hi hfr hla hins hK2
      have hi : i = sz := hi
      refine v_iload_n G (decAt dd_RC_areLabels 53 rfl) rfl ?_
      refine v_aload_n G (decAt dd_RC_areLabels 54 rfl) rfl ?_
      refine v_geti G (decAt dd_RC_areLabels 55 rfl) f_RC_75 ?_
      refine v_ri (y := (nI sz)) hs ?_
      refine v_icmp_ge G 143 (decAt dd_RC_areLabels 56 rfl) (by decide) (fun c96 => ?_) (fun c96 => ?_)
      · skip
        refine v_iconst G 1 (decAt dd_RC_areLabels 81 rfl) (by decide) ?_
        exact v_zret G (decAt dd_RC_areLabels 82 rfl) rfl rfl ⟨true, rfl, ⟨fun _ j hj => ⟨(hins j hj).1, LaI.k1 hla (hins j hj).1 hj, hK2 j (by omega), (hins j hj).2⟩, fun _ => rfl⟩, fun _ lab hl => hla.plc hl, rfl, rfl, rfl, rfl, hfr⟩
      · skip
        exact absurd (nI_le (by omega) (by omega)) c96
    | succ d ih =>
      intro i A1 hi hfr hla hins hK2
      have hil : i < sz := by omega
      refine v_iload_n G (decAt dd_RC_areLabels 53 rfl) rfl ?_
      refine v_aload_n G (decAt dd_RC_areLabels 54 rfl) rfl ?_
      refine v_geti G (decAt dd_RC_areLabels 55 rfl) f_RC_75 ?_
      refine v_ri (y := (nI sz)) hs ?_
      refine v_icmp_ge G 143 (decAt dd_RC_areLabels 56 rfl) (by decide) (fun c96 => ?_) (fun c96 => ?_)
      · skip
        exact absurd c96 (nI_ge (by omega) (by omega))
      · skip
        refine v_aload_n G (decAt dd_RC_areLabels 57 rfl) rfl ?_
        refine v_geta G (decAt dd_RC_areLabels 58 rfl) f_RC_13 ?_
        refine v_iload_n G (decAt dd_RC_areLabels 59 rfl) rfl ?_
        refine v_iald G 0 _ (decAt dd_RC_areLabels 60 rfl) (by decide) rfl (by first | with_reducible rfl | with_reducible exact nI_1 _ | with_reducible exact nI_add _ _ | assumption) (by omega) ?_
        refine v_ri (y := (A 0) i) (congrFun (hfr 0 (by decide)) i) ?_
        refine v_bipush G 10 (decAt dd_RC_areLabels 61 rfl) (by decide) ?_
        refine v_icmp_lt G 137 (decAt dd_RC_areLabels 62 rfl) (by decide) (fun c107 => ?_) (fun c107 => ?_)
        · skip
          refine v_iinc_1 G (nI (i + 1)) (decAt dd_RC_areLabels 79 rfl) (nI_1 i) (by decide) rfl ?_
          refine v_goto G 91 (decAt dd_RC_areLabels 80 rfl) (by decide) ?_
          exact ih (i + 1) A1 (by omega) hfr hla hins (lt_s hK2 (by first | exact Or.inl c107 | exact Or.inr (Or.inl c118) | exact Or.inr (Or.inr (fun z => by rw [hlb2] at z; rw [z] at c132; exact absurd c132 (by decide)))))
        · skip
          refine v_aload_n G (decAt dd_RC_areLabels 63 rfl) rfl ?_
          refine v_geta G (decAt dd_RC_areLabels 64 rfl) f_RC_13 ?_
          refine v_iload_n G (decAt dd_RC_areLabels 65 rfl) rfl ?_
          refine v_iald G 0 _ (decAt dd_RC_areLabels 66 rfl) (by decide) rfl (by first | with_reducible rfl | with_reducible exact nI_1 _ | with_reducible exact nI_add _ _ | assumption) (by omega) ?_
          refine v_ri (y := (A 0) i) (congrFun (hfr 0 (by decide)) i) ?_
          refine v_bipush G 12 (decAt dd_RC_areLabels 67 rfl) (by decide) ?_
          refine v_icmp_gt G 137 (decAt dd_RC_areLabels 68 rfl) (by decide) (fun c118 => ?_) (fun c118 => ?_)
          · skip
            refine v_iinc_1 G (nI (i + 1)) (decAt dd_RC_areLabels 79 rfl) (nI_1 i) (by decide) rfl ?_
            refine v_goto G 91 (decAt dd_RC_areLabels 80 rfl) (by decide) ?_
            exact ih (i + 1) A1 (by omega) hfr hla hins (lt_s hK2 (by first | exact Or.inl c107 | exact Or.inr (Or.inl c118) | exact Or.inr (Or.inr (fun z => by rw [hlb2] at z; rw [z] at c132; exact absurd c132 (by decide)))))
          · skip
            obtain ⟨lb, hlb1, hlb2⟩ : ∃ lb : Nat, lb < 100 ∧ A 1 i = nI lb := lab_of (hins i hil).1 c107 c118
            refine v_aload_n G (decAt dd_RC_areLabels 69 rfl) rfl ?_
            refine v_geta G (decAt dd_RC_areLabels 70 rfl) f_RC_48 ?_
            refine v_aload_n G (decAt dd_RC_areLabels 71 rfl) rfl ?_
            refine v_geta G (decAt dd_RC_areLabels 72 rfl) f_RC_17 ?_
            refine v_iload_n G (decAt dd_RC_areLabels 73 rfl) rfl ?_
            refine v_iald G 1 _ (decAt dd_RC_areLabels 74 rfl) (by decide) rfl (by first | with_reducible rfl | with_reducible exact nI_1 _ | with_reducible exact nI_add _ _ | assumption) (by omega) ?_
            refine v_ri (y := (A 1) i) (congrFun (hfr 1 (by decide)) i) ?_
            refine v_iald G 2 lb (decAt dd_RC_areLabels 75 rfl) (by decide) rfl hlb2 (by omega) ?_
            refine v_ri (y := plcI (A 0) (A 1) sz (nI lb)) (hla.plc hlb1) ?_
            refine v_if_ge G 137 (decAt dd_RC_areLabels 76 rfl) (by decide) (fun c132 => ?_) (fun c132 => ?_)
            · skip
              refine v_iinc_1 G (nI (i + 1)) (decAt dd_RC_areLabels 79 rfl) (nI_1 i) (by decide) rfl ?_
              refine v_goto G 91 (decAt dd_RC_areLabels 80 rfl) (by decide) ?_
              exact ih (i + 1) A1 (by omega) hfr hla hins (lt_s hK2 (by first | exact Or.inl c107 | exact Or.inr (Or.inl c118) | exact Or.inr (Or.inr (fun z => by rw [hlb2] at z; rw [z] at c132; exact absurd c132 (by decide)))))
            · skip
              refine v_iconst G 0 (decAt dd_RC_areLabels 77 rfl) (by decide) ?_
              exact v_zret G (decAt dd_RC_areLabels 78 rfl) rfl rfl ⟨false, rfl, ⟨fun q => (by cases q), fun q => by
                have q2 := ((q i hil).2.2.1.resolve_left c107).resolve_left c118
                rw [hlb2] at q2
                rcases plcI_spec (num := A 0) (arg := A 1) sz (nI lb) with ⟨j, h1, -, -, -, h5⟩ | ⟨-, h2⟩
                · rw [h5] at c132; exact absurd (nI_pos' (by omega)) c132
                · exact absurd h2 q2⟩, fun q => (by cases q), rfl, rfl, rfl, rfl, hfr⟩
  have J23 : ∀ (d i : Nat) (A1 : Nat → Nat → Int32), i + d = sz → (∀ i, i ≠ 2 → A1 i = A i) → LaI (A 0) (A 1) (A1 2) i → (∀ j, j < i → insOK (A 0) (A 1) sz j) → V p l e ({ frames := 1, cells := 0, slots := 0, locals := 23 } : Room) s m args below meth c 2 (Sy E DC AC s.heap ρ g A1 n tx) 0 0 (MQ below (QW E DC AC (fun r ρ' g' A' n' tx' => ∃ b : Bool, r = some (.int (bI b)) ∧ (b = true ↔ LabOK (A 0) (A 1) sz) ∧ (b = true → ∀ lab, lab < 100 → A' 2 lab = plcI (A 0) (A 1) sz (nI lab)) ∧ ρ' = ρ ∧ g' = g ∧ n' = n ∧ tx' = tx ∧ ∀ i, i ≠ 2 → A' i = A i)) args s 0 0 E.F) 23 [some (.ref (E.o 0)), some (.int (nI i))] [] := by
    intro d
    induction d with
    | zero =>
      intro i A1 hi hfr hla hins
      have hi : i = sz := hi
      subst hi
      refine v_iload_n G (decAt dd_RC_areLabels 14 rfl) rfl ?_
      refine v_aload_n G (decAt dd_RC_areLabels 15 rfl) rfl ?_
      refine v_geti G (decAt dd_RC_areLabels 16 rfl) f_RC_75 ?_
      refine v_ri (y := (nI i)) hs ?_
      refine v_icmp_ge G 89 (decAt dd_RC_areLabels 17 rfl) (by decide) (fun c28 => ?_) (fun c28 => ?_)
      · skip
        refine v_iconst G 0 (decAt dd_RC_areLabels 51 rfl) (by decide) ?_
        refine v_istore_1 G (decAt dd_RC_areLabels 52 rfl) (by decide) rfl ?_
        exact J91 i 0 A1 (by omega) hfr hla hins (fun j hj => absurd hj (by omega))
      · skip
        exact absurd (nI_le (by omega) (by omega)) c28
    | succ d ih =>
      intro i A1 hi hfr hla hins
      have hil : i < sz := by omega
      refine v_iload_n G (decAt dd_RC_areLabels 14 rfl) rfl ?_
      refine v_aload_n G (decAt dd_RC_areLabels 15 rfl) rfl ?_
      refine v_geti G (decAt dd_RC_areLabels 16 rfl) f_RC_75 ?_
      refine v_ri (y := (nI sz)) hs ?_
      refine v_icmp_ge G 89 (decAt dd_RC_areLabels 17 rfl) (by decide) (fun c28 => ?_) (fun c28 => ?_)
      · skip
        exact absurd c28 (nI_ge (by omega) (by omega))
      · skip
        refine v_aload_n G (decAt dd_RC_areLabels 18 rfl) rfl ?_
        refine v_iload_n G (decAt dd_RC_areLabels 19 rfl) rfl ?_
        refine v_callVi0 G (As := [.int (nI i)]) (P := fun v ρ' g' A' n' tx' => ∃ b : Bool, v = bI b ∧ (b = true ↔ insOK (A1 0) (A1 1) sz i) ∧ ρ' = ρ ∧ g' = g ∧ A' = A1 ∧ n' = n ∧ tx' = tx) (rm := ({ frames := 0, cells := 0, slots := 0, locals := 0 } : Room)) (decAt dd_RC_areLabels 20 rfl) k_RC_83 (CW.mono (c_RC_isInstruction l hE (sz := sz) ⟨hn0, hn1, hn2, hn3, hn4, hn5, hn6, hn7, hn8, hn9⟩ hs hsz hil) fun r ρ' g' A' n' tx' h => by obtain ⟨b, h1, h2⟩ := h; exact ⟨_, h1, b, rfl, h2⟩) (by decide) rfl rfl rfl (Nat.le_of_ble_eq_true rfl) (by decide) rfl rfl (by decide) (fun v1 ρ1 g1 A2 n1 tx1 hv => ?_)
        obtain ⟨b1, rfl, hb1, rfl, rfl, rfl, rfl, rfl⟩ := hv
        rw [hfr 0 (by decide), hfr 1 (by decide)] at hb1
        refine v_if_ne G 41 (decAt dd_RC_areLabels 21 rfl) (by decide) (fun c36 => ?_) (fun c36 => ?_)
        · skip
          have hio := hb1.mp (eq_true_of_ne_false (fun z => c36 (bI_f z)))
          refine v_aload_n G (decAt dd_RC_areLabels 24 rfl) rfl ?_
          refine v_geta G (decAt dd_RC_areLabels 25 rfl) f_RC_13 ?_
          refine v_iload_n G (decAt dd_RC_areLabels 26 rfl) rfl ?_
          refine v_iald G 0 _ (decAt dd_RC_areLabels 27 rfl) (by decide) rfl (by first | with_reducible rfl | with_reducible exact nI_1 _ | with_reducible exact nI_add _ _ | assumption) (by omega) ?_
          refine v_ri (y := (A 0) i) (congrFun (hfr 0 (by decide)) i) ?_
          refine v_bipush G 13 (decAt dd_RC_areLabels 28 rfl) (by decide) ?_
          refine v_icmp_eq G 55 (decAt dd_RC_areLabels 29 rfl) (by decide) (fun c49 => ?_) (fun c49 => ?_)
          · skip
            obtain ⟨lb, hlb1, hlb2⟩ : ∃ lb : Nat, lb < 100 ∧ A 1 i = nI lb := lab_of13 hio.1 c49
            refine v_aload_n G (decAt dd_RC_areLabels 31 rfl) rfl ?_
            refine v_geta G (decAt dd_RC_areLabels 32 rfl) f_RC_48 ?_
            refine v_aload_n G (decAt dd_RC_areLabels 33 rfl) rfl ?_
            refine v_geta G (decAt dd_RC_areLabels 34 rfl) f_RC_17 ?_
            refine v_iload_n G (decAt dd_RC_areLabels 35 rfl) rfl ?_
            refine v_iald G 1 _ (decAt dd_RC_areLabels 36 rfl) (by decide) rfl (by first | with_reducible rfl | with_reducible exact nI_1 _ | with_reducible exact nI_add _ _ | assumption) (by omega) ?_
            refine v_ri (y := (A 1) i) (congrFun (hfr 1 (by decide)) i) ?_
            refine v_iald G 2 lb (decAt dd_RC_areLabels 37 rfl) (by decide) rfl hlb2 (by omega) ?_
            refine v_if_lt G 71 (decAt dd_RC_areLabels 38 rfl) (by decide) (fun c66 => ?_) (fun c66 => ?_)
            · skip
              refine v_aload_n G (decAt dd_RC_areLabels 41 rfl) rfl ?_
              refine v_geta G (decAt dd_RC_areLabels 42 rfl) f_RC_48 ?_
              refine v_aload_n G (decAt dd_RC_areLabels 43 rfl) rfl ?_
              refine v_geta G (decAt dd_RC_areLabels 44 rfl) f_RC_17 ?_
              refine v_iload_n G (decAt dd_RC_areLabels 45 rfl) rfl ?_
              refine v_iald G 1 _ (decAt dd_RC_areLabels 46 rfl) (by decide) rfl (by first | with_reducible rfl | with_reducible exact nI_1 _ | with_reducible exact nI_add _ _ | assumption) (by omega) ?_
              refine v_ri (y := (A 1) i) (congrFun (hfr 1 (by decide)) i) ?_
              refine v_iload_n G (decAt dd_RC_areLabels 47 rfl) rfl ?_
              refine v_iast G 2 lb (decAt dd_RC_areLabels 48 rfl) (by decide) rfl hlb2 (by omega) ?_
              refine v_iinc_1 G (nI (i + 1)) (decAt dd_RC_areLabels 49 rfl) (nI_1 i) (by decide) rfl ?_
              refine v_goto G 23 (decAt dd_RC_areLabels 50 rfl) (by decide) ?_
              exact ih (i + 1) _ (by omega) (fun q h1 => by rw [va_up_ne _ _ h1]; exact hfr q h1) (hla.put c49 hlb2 hlb1 c66 (by omega)) (lt_s hins hio)
            · skip
              refine v_iconst G 0 (decAt dd_RC_areLabels 39 rfl) (by decide) ?_
              exact v_zret G (decAt dd_RC_areLabels 40 rfl) rfl rfl ⟨false, rfl, ⟨fun q => (by cases q), fun q => by
                exfalso
                have q2 := (q i hil).2.1.resolve_left (fun z => z c49)
                rw [hlb2] at q2
                rcases hla lb hlb1 with ⟨h1, -⟩ | ⟨j, h1, h2, h3, h4, -⟩
                · rw [h1] at c66; exact c66 m1_lt
                · rcases plcI_spec (num := A 0) (arg := A 1) sz (nI lb) with ⟨j', p1, p2, p3, p4, p5⟩ | ⟨p1, -⟩
                  · rw [p5] at q2
                    have := (nI_eq (by omega) (by omega)).mp q2
                    exact p4 j (by omega) ⟨h3, h4⟩
                  · exact p1 j (by omega) ⟨h3, h4⟩⟩, fun q => (by cases q), rfl, rfl, rfl, rfl, hfr⟩
          · skip
            refine v_goto G 83 (decAt dd_RC_areLabels 30 rfl) (by decide) ?_
            refine v_iinc_1 G (nI (i + 1)) (decAt dd_RC_areLabels 49 rfl) (nI_1 i) (by decide) rfl ?_
            refine v_goto G 23 (decAt dd_RC_areLabels 50 rfl) (by decide) ?_
            exact ih (i + 1) _ (by omega) hfr (hla.skip c49) (lt_s hins hio)
        · skip
          have hb : b1 = false := by cases b1 with | true => exact absurd c36 (by decide) | false => rfl
          refine v_iconst G 0 (decAt dd_RC_areLabels 22 rfl) (by decide) ?_
          exact v_zret G (decAt dd_RC_areLabels 23 rfl) rfl rfl ⟨false, rfl, ⟨fun q => (by cases q), fun q => by rw [hb1.mpr ⟨(q i hil).1, (q i hil).2.2.2⟩] at hb; cases hb⟩, fun q => (by cases q), rfl, rfl, rfl, rfl, hfr⟩
  have J2 : ∀ (d i : Nat) (A1 : Nat → Nat → Int32), i + d = 100 → (∀ i, i ≠ 2 → A1 i = A i) → (∀ j, j < i → A1 2 j = -1) → V p l e ({ frames := 1, cells := 0, slots := 0, locals := 23 } : Room) s m args below meth c 2 (Sy E DC AC s.heap ρ g A1 n tx) 0 0 (MQ below (QW E DC AC (fun r ρ' g' A' n' tx' => ∃ b : Bool, r = some (.int (bI b)) ∧ (b = true ↔ LabOK (A 0) (A 1) sz) ∧ (b = true → ∀ lab, lab < 100 → A' 2 lab = plcI (A 0) (A 1) sz (nI lab)) ∧ ρ' = ρ ∧ g' = g ∧ n' = n ∧ tx' = tx ∧ ∀ i, i ≠ 2 → A' i = A i)) args s 0 0 E.F) 2 [some (.ref (E.o 0)), some (.int (nI i))] [] := by
    intro d
    induction d with
    | zero =>
      intro i A1 hi hfr hz
      have hi : i = 100 := hi
      refine v_iload_n G (decAt dd_RC_areLabels 2 rfl) rfl ?_
      refine v_bipush G 100 (decAt dd_RC_areLabels 3 rfl) (by decide) ?_
      refine v_icmp_ge G 21 (decAt dd_RC_areLabels 4 rfl) (by decide) (fun c5 => ?_) (fun c5 => ?_)
      · skip
        refine v_iconst G 0 (decAt dd_RC_areLabels 12 rfl) (by decide) ?_
        refine v_istore_1 G (decAt dd_RC_areLabels 13 rfl) (by decide) rfl ?_
        exact J23 sz 0 A1 (by omega) hfr (fun lab hl => Or.inl ⟨hz lab (by omega), fun j hj => absurd hj (by omega)⟩) (fun j hj => absurd hj (by omega))
      · skip
        exact absurd (nI_le (a := 100) (b := i) (by omega) (by omega)) c5
    | succ d ih =>
      intro i A1 hi hfr hz
      refine v_iload_n G (decAt dd_RC_areLabels 2 rfl) rfl ?_
      refine v_bipush G 100 (decAt dd_RC_areLabels 3 rfl) (by decide) ?_
      refine v_icmp_ge G 21 (decAt dd_RC_areLabels 4 rfl) (by decide) (fun c5 => ?_) (fun c5 => ?_)
      · skip
        exact absurd c5 (nI_ge (a := i) (b := 100) (by omega) (by omega))
      · skip
        refine v_aload_n G (decAt dd_RC_areLabels 5 rfl) rfl ?_
        refine v_geta G (decAt dd_RC_areLabels 6 rfl) f_RC_48 ?_
        refine v_iload_n G (decAt dd_RC_areLabels 7 rfl) rfl ?_
        refine v_iconst G (-1) (decAt dd_RC_areLabels 8 rfl) (by decide) ?_
        refine v_iast G 2 _ (decAt dd_RC_areLabels 9 rfl) (by decide) rfl (by first | with_reducible rfl | with_reducible exact nI_1 _ | with_reducible exact nI_add _ _ | assumption) (by omega) ?_
        refine v_iinc_1 G (nI (i + 1)) (decAt dd_RC_areLabels 10 rfl) (nI_1 i) (by decide) rfl ?_
        refine v_goto G 2 (decAt dd_RC_areLabels 11 rfl) (by decide) ?_
        exact ih (i + 1) _ (by omega) (fun q h1 => by rw [va_up_ne _ _ h1]; exact hfr q h1)
          (fun j hj => by
            by_cases e : j = i
            · subst e; exact va_up_self _ _ _
            · exact (va_up_ne _ _ e).trans (hz j (by omega)))
  refine v_iconst G 0 (decAt dd_RC_areLabels 0 rfl) (by decide) ?_
  refine v_istore_1 G (decAt dd_RC_areLabels 1 rfl) (by decide) rfl ?_
  exact J2 100 0 A (by omega) (fun _ _ => rfl) (fun j hj => absurd hj (by omega))
