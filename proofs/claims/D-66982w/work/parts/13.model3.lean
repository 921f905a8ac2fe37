/-! the plain form's run, over a list of instructions -/
abbrev Cod : Type := List (Nat × Int32)
def lblF : Cod → Int32 → Nat → Option Nat
  | [], _, _ => none
  | (n, k) :: r, lab, i => if n = 13 ∧ k = lab then some i else lblF r lab (i + 1)
def lbl (c : Cod) (lab : Int32) : Option Nat := lblF c lab 0
/-- where the code goes on behind an instruction -/
def cgo (c : Cod) (i n : Nat) (k : Int32) (σ : List Int32) : Option (Nat × List Int32) :=
  if n = 10 then (match lbl c k with | some j => some (j, σ) | none => none)
  else if n = 11 ∨ n = 12 then (match σ with
    | v :: r => if (v = 0 ↔ n = 11) then (match lbl c k with | some j => some (j, r) | none => none) else some (i + 1, r)
    | [] => none)
  else if n = 18 then (match σ with
    | v :: r => if v = k then (match c[i + 1]? with | some (_, k') => (match lbl c k' with | some j => some (j, r) | none => none) | none => none) else some (i + 2, v :: r)
    | [] => none)
  else some (i + 1, σ)
abbrev Res : Type := Nat × Int32 × (Nat → Int32) × (Nat → Int32) × Nat
/-- a run, of at most so many steps: how it ends, the value, locals, words, fuel -/
def crun (c : Cod) : Nat → Nat → List Int32 → (Nat → Int32) → (Nat → Int32) → Nat → Option Res
  | 0, _, _, _, _, _ => none
  | N + 1, i, σ, loc, wrd, fu => if 61 < σ.length then none else match c[i]? with
    | none => none
    | some (n, k) =>
      if n = 16 then (match σ with | v :: _ => some (0, v, loc, wrd, fu) | [] => none)
      else if n = 17 then some (4, 0, loc, wrd, fu)
      else if n = 15 ∧ fu = 0 then some (1, 0, loc, wrd, fu)
      else match mdo n k σ loc wrd with
        | none => none
        | some (ev, σ', loc', wrd') =>
          if 0 < ev then some (ev, 0, loc', wrd', if n = 15 then fu - 1 else fu)
          else match cgo c i n k σ' with
            | none => none
            | some (i', σ'') => crun c N i' σ'' loc' wrd' (if n = 15 then fu - 1 else fu)
def CodeIs (c : Cod) (num arg : Nat → Int32) : Prop := ∀ i n k, c[i]? = some (n, k) → num i = nI n ∧ arg i = k ∧ n ≤ 20
theorem plcG_lbl {num arg : Nat → Int32} {lab : Int32} : ∀ (c : Cod) (i : Nat), (∀ j n k, c[j]? = some (n, k) → num (i + j) = nI n ∧ arg (i + j) = k ∧ n ≤ 20) → plcG num arg lab c.length i = (match lblF c lab i with | some j => nI j | none => -1)
  | [], i, h => rfl
  | (n, k) :: r, i, h => by
    have h0 := h 0 n k rfl
    rw [Nat.add_zero] at h0
    have ih := plcG_lbl (lab := lab) r (i + 1) (fun j n k hj => by have := h (j + 1) n k (by simpa using hj); rw [show i + 1 + j = i + (j + 1) by omega]; exact this)
    show (if num i = 13 ∧ arg i = lab then nI i else plcG num arg lab r.length (i + 1)) = _
    rw [ih]
    have e13 : (num i = 13) ↔ n = 13 := by rw [h0.1]; exact nI_eq (a := n) (b := 13) (by omega) (by omega)
    by_cases hc : n = 13 ∧ k = lab
    · rw [if_pos ⟨e13.mpr hc.1, by rw [h0.2.1]; exact hc.2⟩, lblF, if_pos hc]
    · rw [if_neg (fun z => hc ⟨e13.mp z.1, by rw [← h0.2.1]; exact z.2⟩), lblF, if_neg hc]
theorem plcI_lbl {c : Cod} {num arg : Nat → Int32} {lab : Int32} (h : CodeIs c num arg) : plcI num arg c.length lab = (match lbl c lab with | some j => nI j | none => -1) := plcG_lbl c 0 (fun j n k hj => by rw [Nat.zero_add]; exact h j n k hj)
theorem nI_lit {a b : Nat} (ha : a < 2147483648) (hb : b < 2147483648) (h : a ≠ b) : ¬ nI a = nI b := fun z => h ((nI_eq ha hb).mp z)

set_option maxHeartbeats 4000000 in
theorem c_MD_goesOn (l : Launch) {E : Bs} (hE : Hb E) {ρ : Nat → Nat} {g A : Nat → Nat → Int32} {n : Nat → Nat} {tx : Value} {cd : Cod} {i N : Nat} {k : Int32} {σ : List Int32} {i' : Nat} {σ' : List Int32} (hC : CodeIs cd (A 29) (A 30)) (hi : cd[i]? = some (N, k)) (hgo : cgo cd i N k σ = some (i', σ')) (hn : MN n) (hs : g 6 1 = nI cd.length) (hsz : cd.length ≤ 400) (hh : g 6 11 = nI σ.length) (hl : σ.length ≤ 61) (hr : RowIs (A 35) σ) : CW l E DM AM y_MD_goesOn b_MD_goesOn 5 (some .int) ({ frames := 1, cells := 0, slots := 0, locals := 22 } : Room) [.ref (E.o 6), .int (nI i)] ρ g A n tx (fun r ρ' g' A' n' tx' => r = some (.int (nI i')) ∧ ρ' = ρ ∧ g' = up2 g 6 11 (nI σ'.length) ∧ A' = A ∧ n' = n ∧ tx' = tx ∧ RowIs (A 35) σ') := by
  obtain ⟨hn1, hn2, hn3, hn4, hn5, hn6, hn7⟩ := hn
  have hil : i < cd.length := (List.getElem?_eq_some_iff.mp hi).1
  obtain ⟨hN1, hN2, hN3⟩ := hC i N k hi
  have nn : ∀ b : Nat, b < 100 → ((A 29 i = nI b) ↔ N = b) := fun b hb => by rw [hN1]; exact nI_eq (by omega) (by omega)
  refine CW.start [some (.ref (E.o 6)), some (.int (nI i)), none, none, none] hE (by decide) (Nat.le_of_ble_eq_true rfl) rfl ?_
  intro p e s m args below meth c G
  by_cases h10 : N = 10
  · skip
    subst h10
    obtain ⟨j, hj, rfl, rfl⟩ : ∃ j, lbl cd k = some j ∧ i' = j ∧ σ' = σ := by
      rw [cgo.eq_def, if_pos rfl] at hgo
      cases hq : lbl cd k with
      | none => rw [hq] at hgo; cases hgo
      | some j => rw [hq] at hgo; simp only [Option.some.injEq, Prod.mk.injEq] at hgo; exact ⟨j, rfl, hgo.1.symm, hgo.2.symm⟩
    refine v_aload_n G (decAt dd_MD_goesOn 0 rfl) rfl ?_
    refine v_geta G (decAt dd_MD_goesOn 1 rfl) f_MD_7 ?_
    refine v_iload_n G (decAt dd_MD_goesOn 2 rfl) rfl ?_
    refine v_iald G 29 _ (decAt dd_MD_goesOn 3 rfl) (by decide) rfl (by first | with_reducible rfl | with_reducible exact nI_1 _ | with_reducible exact nI_add _ _ | assumption) (by omega) ?_
    refine v_ri (y := nI 10) hN1 ?_
    refine v_istore_2 G (decAt dd_MD_goesOn 4 rfl) (by decide) rfl ?_
    refine v_aload_n G (decAt dd_MD_goesOn 5 rfl) rfl ?_
    refine v_geta G (decAt dd_MD_goesOn 6 rfl) f_MD_13 ?_
    refine v_iload_n G (decAt dd_MD_goesOn 7 rfl) rfl ?_
    refine v_iald G 30 _ (decAt dd_MD_goesOn 8 rfl) (by decide) rfl (by first | with_reducible rfl | with_reducible exact nI_1 _ | with_reducible exact nI_add _ _ | assumption) (by omega) ?_
    refine v_ri (y := k) hN2 ?_
    refine v_istore_3 G (decAt dd_MD_goesOn 9 rfl) (by decide) rfl ?_
    refine v_iload_n G (decAt dd_MD_goesOn 10 rfl) rfl ?_
    refine v_bipush G 10 (decAt dd_MD_goesOn 11 rfl) (by decide) ?_
    refine v_icmp_ne G 26 (decAt dd_MD_goesOn 12 rfl) (by decide) (fun c17 => ?_) (fun c17 => ?_)
    · skip
      exact absurd rfl c17
    · skip
      refine v_aload_n G (decAt dd_MD_goesOn 13 rfl) rfl ?_
      refine v_iload_n G (decAt dd_MD_goesOn 14 rfl) rfl ?_
      refine v_callVis G (As := [.int (k)]) (decAt dd_MD_goesOn 15 rfl) k_MD_47 (c_MD_place l hE (sz := cd.length) ⟨hn1, hn2, hn3, hn4, hn5, hn6, hn7⟩ hs hsz) rfl rfl rfl rfl (Nat.le_of_ble_eq_true rfl) (by decide) rfl rfl (by decide) ?_
      refine v_ri (y := nI i') (by rw [plcI_lbl hC]; rw [hj]) ?_
      exact v_iret G (decAt dd_MD_goesOn 16 rfl) rfl ⟨rfl, rfl, (up2_id hh).symm, rfl, rfl, rfl, hr⟩
  · by_cases h11 : N = 11 ∨ N = 12
    · skip
      have hg0 := hgo
      rw [cgo.eq_def, if_neg h10, if_pos h11] at hgo
      rcases σ with _ | ⟨v, r⟩
      · cases hgo
      · skip
        have hl0 : r.length + 1 ≤ 61 := hl
        have hgo : (if (v = 0 ↔ N = 11) then (match lbl cd k with | some j => some (j, r) | none => none) else some (i + 1, r)) = some (i', σ') := hgo
        refine v_aload_n G (decAt dd_MD_goesOn 0 rfl) rfl ?_
        refine v_geta G (decAt dd_MD_goesOn 1 rfl) f_MD_7 ?_
        refine v_iload_n G (decAt dd_MD_goesOn 2 rfl) rfl ?_
        refine v_iald G 29 _ (decAt dd_MD_goesOn 3 rfl) (by decide) rfl (by first | with_reducible rfl | with_reducible exact nI_1 _ | with_reducible exact nI_add _ _ | assumption) (by omega) ?_
        refine v_ri (y := nI N) hN1 ?_
        refine v_istore_2 G (decAt dd_MD_goesOn 4 rfl) (by decide) rfl ?_
        refine v_aload_n G (decAt dd_MD_goesOn 5 rfl) rfl ?_
        refine v_geta G (decAt dd_MD_goesOn 6 rfl) f_MD_13 ?_
        refine v_iload_n G (decAt dd_MD_goesOn 7 rfl) rfl ?_
        refine v_iald G 30 _ (decAt dd_MD_goesOn 8 rfl) (by decide) rfl (by first | with_reducible rfl | with_reducible exact nI_1 _ | with_reducible exact nI_add _ _ | assumption) (by omega) ?_
        refine v_ri (y := k) hN2 ?_
        refine v_istore_3 G (decAt dd_MD_goesOn 9 rfl) (by decide) rfl ?_
        refine v_iload_n G (decAt dd_MD_goesOn 10 rfl) rfl ?_
        refine v_bipush G 10 (decAt dd_MD_goesOn 11 rfl) (by decide) ?_
        refine v_icmp_ne G 26 (decAt dd_MD_goesOn 12 rfl) (by decide) (fun c17 => ?_) (fun c17 => ?_)
        · skip
          refine v_iload_n G (decAt dd_MD_goesOn 17 rfl) rfl ?_
          refine v_bipush G 11 (decAt dd_MD_goesOn 18 rfl) (by decide) ?_
          refine v_icmp_eq G 38 (decAt dd_MD_goesOn 19 rfl) (by decide) (fun c29 => ?_) (fun c29 => ?_)
          · skip
            refine v_aload_n G (decAt dd_MD_goesOn 23 rfl) rfl ?_
            refine v_callVik G (As := []) (decAt dd_MD_goesOn 24 rfl) k_MD_83 (c_MD_pop l hE (h := r.length) ⟨hn1, hn2, hn3, hn4, hn5, hn6, hn7⟩ hh (by omega)) rfl rfl rfl rfl (Nat.le_of_ble_eq_true rfl) (by decide) rfl rfl (by decide) ?_
            refine v_ri (y := v) hr.1 ?_
            refine v_istore_4 G (decAt dd_MD_goesOn 25 rfl) (by decide) rfl ?_
            refine v_iload G (decAt dd_MD_goesOn 26 rfl) rfl ?_
            refine v_if_ne G 53 (decAt dd_MD_goesOn 27 rfl) (by decide) (fun c46 => ?_) (fun c46 => ?_)
            · skip
              refine v_iconst G 0 (decAt dd_MD_goesOn 30 rfl) (by decide) ?_
              refine v_iload_n G (decAt dd_MD_goesOn 31 rfl) rfl ?_
              refine v_bipush G 11 (decAt dd_MD_goesOn 32 rfl) (by decide) ?_
              refine v_icmp_ne G 64 (decAt dd_MD_goesOn 33 rfl) (by decide) (fun c57 => ?_) (fun c57 => ?_)
              · skip
                refine v_iconst G 0 (decAt dd_MD_goesOn 36 rfl) (by decide) ?_
                refine v_icmp_ne G 76 (decAt dd_MD_goesOn 37 rfl) (by decide) (fun c65 => absurd rfl c65) (fun c65 => ?_)
                obtain ⟨j, hj, rfl, rfl⟩ : ∃ j, lbl cd k = some j ∧ i' = j ∧ σ' = r := by
                  rw [if_pos (show v = 0 ↔ N = 11 from ⟨fun z => absurd z c46, fun z => absurd (by rw [z]; rfl) c57⟩)] at hgo
                  cases hq : lbl cd k with
                  | none => rw [hq] at hgo; cases hgo
                  | some j => rw [hq] at hgo; simp only [Option.some.injEq, Prod.mk.injEq] at hgo; exact ⟨j, rfl, hgo.1.symm, hgo.2.symm⟩
                refine v_aload_n G (decAt dd_MD_goesOn 38 rfl) rfl ?_
                refine v_iload_n G (decAt dd_MD_goesOn 39 rfl) rfl ?_
                refine v_callVis G (As := [.int (k)]) (decAt dd_MD_goesOn 40 rfl) k_MD_47 (c_MD_place l hE (sz := cd.length) ⟨hn1, hn2, hn3, hn4, hn5, hn6, hn7⟩ hs hsz) rfl rfl rfl rfl (Nat.le_of_ble_eq_true rfl) (by decide) rfl rfl (by decide) ?_
                refine v_ri (y := nI i') (by rw [plcI_lbl hC]; rw [hj]) ?_
                refine v_goto G 79 (decAt dd_MD_goesOn 41 rfl) (by decide) ?_
                exact v_iret G (decAt dd_MD_goesOn 45 rfl) rfl ⟨rfl, rfl, rfl, rfl, rfl, rfl, hr.2⟩
              · skip
                refine v_iconst G 1 (decAt dd_MD_goesOn 34 rfl) (by decide) ?_
                refine v_goto G 65 (decAt dd_MD_goesOn 35 rfl) (by decide) ?_
                refine v_icmp_ne G 76 (decAt dd_MD_goesOn 37 rfl) (by decide) (fun c65 => ?_) (fun c65 => absurd c65 (by decide))
                rw [if_neg (show ¬ (v = 0 ↔ N = 11) from fun z => c46 (z.mpr ((nI_eq (a := N) (b := 11) (by omega) (by omega)).mp c57)))] at hgo
                simp only [Option.some.injEq, Prod.mk.injEq] at hgo
                obtain ⟨rfl, rfl⟩ := hgo
                refine v_iload_n G (decAt dd_MD_goesOn 42 rfl) rfl ?_
                refine v_iconst G 1 (decAt dd_MD_goesOn 43 rfl) (by decide) ?_
                refine v_iadd G (decAt dd_MD_goesOn 44 rfl) ?_
                exact v_iret G (decAt dd_MD_goesOn 45 rfl) rfl ⟨some_i (nI_1 i), rfl, rfl, rfl, rfl, rfl, hr.2⟩
            · skip
              refine v_iconst G 1 (decAt dd_MD_goesOn 28 rfl) (by decide) ?_
              refine v_goto G 54 (decAt dd_MD_goesOn 29 rfl) (by decide) ?_
              refine v_iload_n G (decAt dd_MD_goesOn 31 rfl) rfl ?_
              refine v_bipush G 11 (decAt dd_MD_goesOn 32 rfl) (by decide) ?_
              refine v_icmp_ne G 64 (decAt dd_MD_goesOn 33 rfl) (by decide) (fun c57 => ?_) (fun c57 => ?_)
              · skip
                refine v_iconst G 0 (decAt dd_MD_goesOn 36 rfl) (by decide) ?_
                refine v_icmp_ne G 76 (decAt dd_MD_goesOn 37 rfl) (by decide) (fun c65 => ?_) (fun c65 => absurd c65 (by decide))
                rw [if_neg (show ¬ (v = 0 ↔ N = 11) from fun z => c57 (by rw [z.mp c46]; rfl))] at hgo
                simp only [Option.some.injEq, Prod.mk.injEq] at hgo
                obtain ⟨rfl, rfl⟩ := hgo
                refine v_iload_n G (decAt dd_MD_goesOn 42 rfl) rfl ?_
                refine v_iconst G 1 (decAt dd_MD_goesOn 43 rfl) (by decide) ?_
                refine v_iadd G (decAt dd_MD_goesOn 44 rfl) ?_
                exact v_iret G (decAt dd_MD_goesOn 45 rfl) rfl ⟨some_i (nI_1 i), rfl, rfl, rfl, rfl, rfl, hr.2⟩
              · skip
                refine v_iconst G 1 (decAt dd_MD_goesOn 34 rfl) (by decide) ?_
                refine v_goto G 65 (decAt dd_MD_goesOn 35 rfl) (by decide) ?_
                refine v_icmp_ne G 76 (decAt dd_MD_goesOn 37 rfl) (by decide) (fun c65 => absurd rfl c65) (fun c65 => ?_)
                obtain ⟨j, hj, rfl, rfl⟩ : ∃ j, lbl cd k = some j ∧ i' = j ∧ σ' = r := by
                  rw [if_pos (show v = 0 ↔ N = 11 from ⟨fun z => (nI_eq (a := N) (b := 11) (by omega) (by omega)).mp c57, fun z => c46⟩)] at hgo
                  cases hq : lbl cd k with
                  | none => rw [hq] at hgo; cases hgo
                  | some j => rw [hq] at hgo; simp only [Option.some.injEq, Prod.mk.injEq] at hgo; exact ⟨j, rfl, hgo.1.symm, hgo.2.symm⟩
                refine v_aload_n G (decAt dd_MD_goesOn 38 rfl) rfl ?_
                refine v_iload_n G (decAt dd_MD_goesOn 39 rfl) rfl ?_
                refine v_callVis G (As := [.int (k)]) (decAt dd_MD_goesOn 40 rfl) k_MD_47 (c_MD_place l hE (sz := cd.length) ⟨hn1, hn2, hn3, hn4, hn5, hn6, hn7⟩ hs hsz) rfl rfl rfl rfl (Nat.le_of_ble_eq_true rfl) (by decide) rfl rfl (by decide) ?_
                refine v_ri (y := nI i') (by rw [plcI_lbl hC]; rw [hj]) ?_
                refine v_goto G 79 (decAt dd_MD_goesOn 41 rfl) (by decide) ?_
                exact v_iret G (decAt dd_MD_goesOn 45 rfl) rfl ⟨rfl, rfl, rfl, rfl, rfl, rfl, hr.2⟩
          · skip
            refine v_iload_n G (decAt dd_MD_goesOn 20 rfl) rfl ?_
            refine v_bipush G 12 (decAt dd_MD_goesOn 21 rfl) (by decide) ?_
            refine v_icmp_ne G 80 (decAt dd_MD_goesOn 22 rfl) (by decide) (fun c35 => ?_) (fun c35 => ?_)
            · skip
              exact absurd h11 (fun z => z.elim (fun q => c29 (by rw [q]; rfl)) (fun q => c35 (by rw [q]; rfl)))
            · skip
              refine v_aload_n G (decAt dd_MD_goesOn 23 rfl) rfl ?_
              refine v_callVik G (As := []) (decAt dd_MD_goesOn 24 rfl) k_MD_83 (c_MD_pop l hE (h := r.length) ⟨hn1, hn2, hn3, hn4, hn5, hn6, hn7⟩ hh (by omega)) rfl rfl rfl rfl (Nat.le_of_ble_eq_true rfl) (by decide) rfl rfl (by decide) ?_
              refine v_ri (y := v) hr.1 ?_
              refine v_istore_4 G (decAt dd_MD_goesOn 25 rfl) (by decide) rfl ?_
              refine v_iload G (decAt dd_MD_goesOn 26 rfl) rfl ?_
              refine v_if_ne G 53 (decAt dd_MD_goesOn 27 rfl) (by decide) (fun c46 => ?_) (fun c46 => ?_)
              · skip
                refine v_iconst G 0 (decAt dd_MD_goesOn 30 rfl) (by decide) ?_
                refine v_iload_n G (decAt dd_MD_goesOn 31 rfl) rfl ?_
                refine v_bipush G 11 (decAt dd_MD_goesOn 32 rfl) (by decide) ?_
                refine v_icmp_ne G 64 (decAt dd_MD_goesOn 33 rfl) (by decide) (fun c57 => ?_) (fun c57 => ?_)
                · skip
                  refine v_iconst G 0 (decAt dd_MD_goesOn 36 rfl) (by decide) ?_
                  refine v_icmp_ne G 76 (decAt dd_MD_goesOn 37 rfl) (by decide) (fun c65 => absurd rfl c65) (fun c65 => ?_)
                  obtain ⟨j, hj, rfl, rfl⟩ : ∃ j, lbl cd k = some j ∧ i' = j ∧ σ' = r := by
                    rw [if_pos (show v = 0 ↔ N = 11 from ⟨fun z => absurd z c46, fun z => absurd (by rw [z]; rfl) c57⟩)] at hgo
                    cases hq : lbl cd k with
                    | none => rw [hq] at hgo; cases hgo
                    | some j => rw [hq] at hgo; simp only [Option.some.injEq, Prod.mk.injEq] at hgo; exact ⟨j, rfl, hgo.1.symm, hgo.2.symm⟩
                  refine v_aload_n G (decAt dd_MD_goesOn 38 rfl) rfl ?_
                  refine v_iload_n G (decAt dd_MD_goesOn 39 rfl) rfl ?_
                  refine v_callVis G (As := [.int (k)]) (decAt dd_MD_goesOn 40 rfl) k_MD_47 (c_MD_place l hE (sz := cd.length) ⟨hn1, hn2, hn3, hn4, hn5, hn6, hn7⟩ hs hsz) rfl rfl rfl rfl (Nat.le_of_ble_eq_true rfl) (by decide) rfl rfl (by decide) ?_
                  refine v_ri (y := nI i') (by rw [plcI_lbl hC]; rw [hj]) ?_
                  refine v_goto G 79 (decAt dd_MD_goesOn 41 rfl) (by decide) ?_
                  exact v_iret G (decAt dd_MD_goesOn 45 rfl) rfl ⟨rfl, rfl, rfl, rfl, rfl, rfl, hr.2⟩
                · skip
                  refine v_iconst G 1 (decAt dd_MD_goesOn 34 rfl) (by decide) ?_
                  refine v_goto G 65 (decAt dd_MD_goesOn 35 rfl) (by decide) ?_
                  refine v_icmp_ne G 76 (decAt dd_MD_goesOn 37 rfl) (by decide) (fun c65 => ?_) (fun c65 => absurd c65 (by decide))
                  rw [if_neg (show ¬ (v = 0 ↔ N = 11) from fun z => c46 (z.mpr ((nI_eq (a := N) (b := 11) (by omega) (by omega)).mp c57)))] at hgo
                  simp only [Option.some.injEq, Prod.mk.injEq] at hgo
                  obtain ⟨rfl, rfl⟩ := hgo
                  refine v_iload_n G (decAt dd_MD_goesOn 42 rfl) rfl ?_
                  refine v_iconst G 1 (decAt dd_MD_goesOn 43 rfl) (by decide) ?_
                  refine v_iadd G (decAt dd_MD_goesOn 44 rfl) ?_
                  exact v_iret G (decAt dd_MD_goesOn 45 rfl) rfl ⟨some_i (nI_1 i), rfl, rfl, rfl, rfl, rfl, hr.2⟩
              · skip
                refine v_iconst G 1 (decAt dd_MD_goesOn 28 rfl) (by decide) ?_
                refine v_goto G 54 (decAt dd_MD_goesOn 29 rfl) (by decide) ?_
                refine v_iload_n G (decAt dd_MD_goesOn 31 rfl) rfl ?_
                refine v_bipush G 11 (decAt dd_MD_goesOn 32 rfl) (by decide) ?_
                refine v_icmp_ne G 64 (decAt dd_MD_goesOn 33 rfl) (by decide) (fun c57 => ?_) (fun c57 => ?_)
                · skip
                  refine v_iconst G 0 (decAt dd_MD_goesOn 36 rfl) (by decide) ?_
                  refine v_icmp_ne G 76 (decAt dd_MD_goesOn 37 rfl) (by decide) (fun c65 => ?_) (fun c65 => absurd c65 (by decide))
                  rw [if_neg (show ¬ (v = 0 ↔ N = 11) from fun z => c57 (by rw [z.mp c46]; rfl))] at hgo
                  simp only [Option.some.injEq, Prod.mk.injEq] at hgo
                  obtain ⟨rfl, rfl⟩ := hgo
                  refine v_iload_n G (decAt dd_MD_goesOn 42 rfl) rfl ?_
                  refine v_iconst G 1 (decAt dd_MD_goesOn 43 rfl) (by decide) ?_
                  refine v_iadd G (decAt dd_MD_goesOn 44 rfl) ?_
                  exact v_iret G (decAt dd_MD_goesOn 45 rfl) rfl ⟨some_i (nI_1 i), rfl, rfl, rfl, rfl, rfl, hr.2⟩
                · skip
                  refine v_iconst G 1 (decAt dd_MD_goesOn 34 rfl) (by decide) ?_
                  refine v_goto G 65 (decAt dd_MD_goesOn 35 rfl) (by decide) ?_
                  refine v_icmp_ne G 76 (decAt dd_MD_goesOn 37 rfl) (by decide) (fun c65 => absurd rfl c65) (fun c65 => ?_)
                  obtain ⟨j, hj, rfl, rfl⟩ : ∃ j, lbl cd k = some j ∧ i' = j ∧ σ' = r := by
                    rw [if_pos (show v = 0 ↔ N = 11 from ⟨fun z => (nI_eq (a := N) (b := 11) (by omega) (by omega)).mp c57, fun z => c46⟩)] at hgo
                    cases hq : lbl cd k with
                    | none => rw [hq] at hgo; cases hgo
                    | some j => rw [hq] at hgo; simp only [Option.some.injEq, Prod.mk.injEq] at hgo; exact ⟨j, rfl, hgo.1.symm, hgo.2.symm⟩
                  refine v_aload_n G (decAt dd_MD_goesOn 38 rfl) rfl ?_
                  refine v_iload_n G (decAt dd_MD_goesOn 39 rfl) rfl ?_
                  refine v_callVis G (As := [.int (k)]) (decAt dd_MD_goesOn 40 rfl) k_MD_47 (c_MD_place l hE (sz := cd.length) ⟨hn1, hn2, hn3, hn4, hn5, hn6, hn7⟩ hs hsz) rfl rfl rfl rfl (Nat.le_of_ble_eq_true rfl) (by decide) rfl rfl (by decide) ?_
                  refine v_ri (y := nI i') (by rw [plcI_lbl hC]; rw [hj]) ?_
                  refine v_goto G 79 (decAt dd_MD_goesOn 41 rfl) (by decide) ?_
                  exact v_iret G (decAt dd_MD_goesOn 45 rfl) rfl ⟨rfl, rfl, rfl, rfl, rfl, rfl, hr.2⟩
        · skip
          exact absurd ((nI_eq (a := N) (b := 10) (by omega) (by omega)).mp c17) h10
    · by_cases h18 : N = 18
      · skip
        rw [cgo.eq_def, if_neg h10, if_neg h11, if_pos h18] at hgo
        rcases σ with _ | ⟨v, r⟩
        · cases hgo
        · skip
          have hl0 : r.length + 1 ≤ 61 := hl
          have hgo : (if v = k then (match cd[i + 1]? with | some (_, k') => (match lbl cd k' with | some j => some (j, r) | none => none) | none => none) else some (i + 2, v :: r)) = some (i', σ') := hgo
          refine v_aload_n G (decAt dd_MD_goesOn 0 rfl) rfl ?_
          refine v_geta G (decAt dd_MD_goesOn 1 rfl) f_MD_7 ?_
          refine v_iload_n G (decAt dd_MD_goesOn 2 rfl) rfl ?_
          refine v_iald G 29 _ (decAt dd_MD_goesOn 3 rfl) (by decide) rfl (by first | with_reducible rfl | with_reducible exact nI_1 _ | with_reducible exact nI_add _ _ | assumption) (by omega) ?_
          refine v_ri (y := nI N) hN1 ?_
          refine v_istore_2 G (decAt dd_MD_goesOn 4 rfl) (by decide) rfl ?_
          refine v_aload_n G (decAt dd_MD_goesOn 5 rfl) rfl ?_
          refine v_geta G (decAt dd_MD_goesOn 6 rfl) f_MD_13 ?_
          refine v_iload_n G (decAt dd_MD_goesOn 7 rfl) rfl ?_
          refine v_iald G 30 _ (decAt dd_MD_goesOn 8 rfl) (by decide) rfl (by first | with_reducible rfl | with_reducible exact nI_1 _ | with_reducible exact nI_add _ _ | assumption) (by omega) ?_
          refine v_ri (y := k) hN2 ?_
          refine v_istore_3 G (decAt dd_MD_goesOn 9 rfl) (by decide) rfl ?_
          refine v_iload_n G (decAt dd_MD_goesOn 10 rfl) rfl ?_
          refine v_bipush G 10 (decAt dd_MD_goesOn 11 rfl) (by decide) ?_
          refine v_icmp_ne G 26 (decAt dd_MD_goesOn 12 rfl) (by decide) (fun c17 => ?_) (fun c17 => ?_)
          · skip
            refine v_iload_n G (decAt dd_MD_goesOn 17 rfl) rfl ?_
            refine v_bipush G 11 (decAt dd_MD_goesOn 18 rfl) (by decide) ?_
            refine v_icmp_eq G 38 (decAt dd_MD_goesOn 19 rfl) (by decide) (fun c29 => ?_) (fun c29 => ?_)
            · skip
              exact absurd (Or.inl ((nI_eq (a := N) (b := 11) (by omega) (by omega)).mp c29)) h11
            · skip
              refine v_iload_n G (decAt dd_MD_goesOn 20 rfl) rfl ?_
              refine v_bipush G 12 (decAt dd_MD_goesOn 21 rfl) (by decide) ?_
              refine v_icmp_ne G 80 (decAt dd_MD_goesOn 22 rfl) (by decide) (fun c35 => ?_) (fun c35 => ?_)
              · skip
                refine v_iload_n G (decAt dd_MD_goesOn 46 rfl) rfl ?_
                refine v_bipush G 18 (decAt dd_MD_goesOn 47 rfl) (by decide) ?_
                refine v_icmp_ne G 123 (decAt dd_MD_goesOn 48 rfl) (by decide) (fun c83 => ?_) (fun c83 => ?_)
                · skip
                  exact absurd (by rw [h18]; rfl) c83
                · skip
                  refine v_aload_n G (decAt dd_MD_goesOn 49 rfl) rfl ?_
                  refine v_geta G (decAt dd_MD_goesOn 50 rfl) f_MD_29 ?_
                  refine v_aload_n G (decAt dd_MD_goesOn 51 rfl) rfl ?_
                  refine v_geti G (decAt dd_MD_goesOn 52 rfl) f_MD_74 ?_
                  refine v_ri (y := (nI (r.length + 1))) hh ?_
                  refine v_iconst G 1 (decAt dd_MD_goesOn 53 rfl) (by decide) ?_
                  refine v_isub G (decAt dd_MD_goesOn 54 rfl) ?_
                  refine v_ri (y := (nI r.length)) (nI_pred r.length) ?_
                  refine v_iald G 35 r.length (decAt dd_MD_goesOn 55 rfl) (by decide) rfl rfl (by omega) ?_
                  refine v_ri (y := v) hr.1 ?_
                  refine v_iload_n G (decAt dd_MD_goesOn 56 rfl) rfl ?_
                  refine v_icmp_eq G 105 (decAt dd_MD_goesOn 57 rfl) (by decide) (fun c98 => ?_) (fun c98 => ?_)
                  · skip
                    rw [if_pos c98] at hgo
                    obtain ⟨n2, k', hk2, j, hj, rfl, rfl⟩ : ∃ n2 k', cd[i + 1]? = some (n2, k') ∧ ∃ j, lbl cd k' = some j ∧ i' = j ∧ r = σ' := by
                      cases hq : cd[i + 1]? with
                      | none => rw [hq] at hgo; cases hgo
                      | some q =>
                        obtain ⟨n2, k'⟩ := q
                        rw [hq] at hgo
                        dsimp only at hgo
                        cases hq2 : lbl cd k' with
                        | none => rw [hq2] at hgo; cases hgo
                        | some j => rw [hq2] at hgo; simp only [Option.some.injEq, Prod.mk.injEq] at hgo; exact ⟨n2, k', rfl, j, hq2, hgo.1.symm, hgo.2⟩
                    have hi2 : i + 1 < cd.length := (List.getElem?_eq_some_iff.mp hk2).1
                    obtain ⟨hM1, hM2, hM3⟩ := hC _ _ _ hk2
                    refine v_aload_n G (decAt dd_MD_goesOn 62 rfl) rfl ?_
                    refine v_callVik G (As := []) (decAt dd_MD_goesOn 63 rfl) k_MD_83 (c_MD_pop l hE (h := r.length) ⟨hn1, hn2, hn3, hn4, hn5, hn6, hn7⟩ hh (by omega)) rfl rfl rfl rfl (Nat.le_of_ble_eq_true rfl) (by decide) rfl rfl (by decide) ?_
                    refine v_pop G (decAt dd_MD_goesOn 64 rfl) rfl ?_
                    refine v_aload_n G (decAt dd_MD_goesOn 65 rfl) rfl ?_
                    refine v_aload_n G (decAt dd_MD_goesOn 66 rfl) rfl ?_
                    refine v_geta G (decAt dd_MD_goesOn 67 rfl) f_MD_13 ?_
                    refine v_iload_n G (decAt dd_MD_goesOn 68 rfl) rfl ?_
                    refine v_iconst G 1 (decAt dd_MD_goesOn 69 rfl) (by decide) ?_
                    refine v_iadd G (decAt dd_MD_goesOn 70 rfl) ?_
                    refine v_iald G 30 (i + 1) (decAt dd_MD_goesOn 71 rfl) (by decide) rfl (nI_1 i) (by omega) ?_
                    refine v_ri (y := k') hM2 ?_
                    refine v_callVis G (As := [.int (k')]) (decAt dd_MD_goesOn 72 rfl) k_MD_47 (c_MD_place l hE (sz := cd.length) ⟨hn1, hn2, hn3, hn4, hn5, hn6, hn7⟩ hs hsz) rfl rfl rfl rfl (Nat.le_of_ble_eq_true rfl) (by decide) rfl rfl (by decide) ?_
                    refine v_ri (y := nI i') (by rw [plcI_lbl hC]; rw [hj]) ?_
                    exact v_iret G (decAt dd_MD_goesOn 73 rfl) rfl ⟨rfl, rfl, rfl, rfl, rfl, rfl, hr.2⟩
                  · skip
                    rw [if_neg c98] at hgo
                    simp only [Option.some.injEq, Prod.mk.injEq] at hgo
                    obtain ⟨rfl, rfl⟩ := hgo
                    refine v_iload_n G (decAt dd_MD_goesOn 58 rfl) rfl ?_
                    refine v_iconst G 2 (decAt dd_MD_goesOn 59 rfl) (by decide) ?_
                    refine v_iadd G (decAt dd_MD_goesOn 60 rfl) ?_
                    exact v_iret G (decAt dd_MD_goesOn 61 rfl) rfl ⟨some_i (nI_add i 2), rfl, (up2_id hh).symm, rfl, rfl, rfl, hr⟩
              · skip
                exact absurd (Or.inr ((nI_eq (a := N) (b := 12) (by omega) (by omega)).mp c35)) h11
          · skip
            exact absurd ((nI_eq (a := N) (b := 10) (by omega) (by omega)).mp c17) h10
      · skip
        rw [cgo.eq_def, if_neg h10, if_neg h11, if_neg h18] at hgo
        simp only [Option.some.injEq, Prod.mk.injEq] at hgo
        obtain ⟨rfl, rfl⟩ := hgo
        refine v_aload_n G (decAt dd_MD_goesOn 0 rfl) rfl ?_
        refine v_geta G (decAt dd_MD_goesOn 1 rfl) f_MD_7 ?_
        refine v_iload_n G (decAt dd_MD_goesOn 2 rfl) rfl ?_
        refine v_iald G 29 _ (decAt dd_MD_goesOn 3 rfl) (by decide) rfl (by first | with_reducible rfl | with_reducible exact nI_1 _ | with_reducible exact nI_add _ _ | assumption) (by omega) ?_
        refine v_ri (y := nI N) hN1 ?_
        refine v_istore_2 G (decAt dd_MD_goesOn 4 rfl) (by decide) rfl ?_
        refine v_aload_n G (decAt dd_MD_goesOn 5 rfl) rfl ?_
        refine v_geta G (decAt dd_MD_goesOn 6 rfl) f_MD_13 ?_
        refine v_iload_n G (decAt dd_MD_goesOn 7 rfl) rfl ?_
        refine v_iald G 30 _ (decAt dd_MD_goesOn 8 rfl) (by decide) rfl (by first | with_reducible rfl | with_reducible exact nI_1 _ | with_reducible exact nI_add _ _ | assumption) (by omega) ?_
        refine v_ri (y := k) hN2 ?_
        refine v_istore_3 G (decAt dd_MD_goesOn 9 rfl) (by decide) rfl ?_
        refine v_iload_n G (decAt dd_MD_goesOn 10 rfl) rfl ?_
        refine v_bipush G 10 (decAt dd_MD_goesOn 11 rfl) (by decide) ?_
        refine v_icmp_ne G 26 (decAt dd_MD_goesOn 12 rfl) (by decide) (fun c17 => ?_) (fun c17 => ?_)
        · skip
          refine v_iload_n G (decAt dd_MD_goesOn 17 rfl) rfl ?_
          refine v_bipush G 11 (decAt dd_MD_goesOn 18 rfl) (by decide) ?_
          refine v_icmp_eq G 38 (decAt dd_MD_goesOn 19 rfl) (by decide) (fun c29 => ?_) (fun c29 => ?_)
          · skip
            exact absurd (Or.inl ((nI_eq (a := N) (b := 11) (by omega) (by omega)).mp c29)) h11
          · skip
            refine v_iload_n G (decAt dd_MD_goesOn 20 rfl) rfl ?_
            refine v_bipush G 12 (decAt dd_MD_goesOn 21 rfl) (by decide) ?_
            refine v_icmp_ne G 80 (decAt dd_MD_goesOn 22 rfl) (by decide) (fun c35 => ?_) (fun c35 => ?_)
            · skip
              refine v_iload_n G (decAt dd_MD_goesOn 46 rfl) rfl ?_
              refine v_bipush G 18 (decAt dd_MD_goesOn 47 rfl) (by decide) ?_
              refine v_icmp_ne G 123 (decAt dd_MD_goesOn 48 rfl) (by decide) (fun c83 => ?_) (fun c83 => ?_)
              · skip
                refine v_iload_n G (decAt dd_MD_goesOn 74 rfl) rfl ?_
                refine v_iconst G 1 (decAt dd_MD_goesOn 75 rfl) (by decide) ?_
                refine v_iadd G (decAt dd_MD_goesOn 76 rfl) ?_
                exact v_iret G (decAt dd_MD_goesOn 77 rfl) rfl ⟨some_i (nI_1 i), rfl, (up2_id hh).symm, rfl, rfl, rfl, hr⟩
              · skip
                exact absurd ((nI_eq (a := N) (b := 18) (by omega) (by omega)).mp c83) h18
            · skip
              exact absurd (Or.inr ((nI_eq (a := N) (b := 12) (by omega) (by omega)).mp c35)) h11
        · skip
          exact absurd ((nI_eq (a := N) (b := 10) (by omega) (by omega)).mp c17) h10
