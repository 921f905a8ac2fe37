/-! the plain form's run: what it does, over lists -/
theorem up2_up2 (g : Nat → Nat → Int32) (k f : Nat) (v w : Int32) : up2 (up2 g k f v) k f w = up2 g k f w := by
  funext a b
  by_cases h : a = k ∧ b = f <;> simp [up2, h]
theorem up2_id {g : Nat → Nat → Int32} {k f : Nat} {v : Int32} (h : g k f = v) : up2 g k f v = g := by
  funext a b
  by_cases h2 : a = k ∧ b = f
  · obtain ⟨rfl, rfl⟩ := h2
    simp [up2, h]
  · simp [up2, h2]
def RowIs (rw : Nat → Int32) : List Int32 → Prop
  | [] => True
  | v :: σ => rw σ.length = v ∧ RowIs rw σ
theorem RowIs.up {rw : Nat → Int32} {k : Nat} {v : Int32} : ∀ {σ : List Int32}, RowIs rw σ → σ.length ≤ k → RowIs (va_up rw k v) σ
  | [], _, _ => trivial
  | w :: σ, h, hk => ⟨by rw [va_up_ne _ _ (by simp at hk; omega)]; exact h.1, RowIs.up h.2 (by simp at hk; omega)⟩
theorem RowIs.push {rw : Nat → Int32} {v : Int32} {σ : List Int32} (h : RowIs rw σ) : RowIs (va_up rw σ.length v) (v :: σ) := ⟨va_up_self _ _ _, h.up (Nat.le_refl _)⟩
def rI (b : Bool) : Int32 := if b then -1 else 0
def inR (k : Int32) (b : Nat) : Bool := decide (0 ≤ k.toInt ∧ k.toInt < b)
def getb (w y : Int32) : Int32 := (w >>> ((8 * (y &&& 3)) &&& 31)) &&& 255
def setb (w y v : Int32) : Int32 := (w &&& ((255 <<< ((8 * (y &&& 3)) &&& 31)) ^^^ (-1))) ||| ((v &&& 255) <<< ((8 * (y &&& 3)) &&& 31))
abbrev Env1 : Type := Nat × List Int32 × (Nat → Int32) × (Nat → Int32)
/-- what an instruction does with the row (top first), the locals, the words: 0, or by what it ends -/
def mdo (n : Nat) (k : Int32) (σ : List Int32) (loc wrd : Nat → Int32) : Option Env1 :=
  match n with
  | 0 => if σ.length < 61 then some (0, k :: σ, loc, wrd) else none
  | 1 => if σ.length < 61 ∧ inR k 16 = true then some (0, loc k.toNatClampNeg :: σ, loc, wrd) else none
  | 2 => match σ with
    | v :: r => if inR k 16 = true then some (0, r, va_up loc k.toNatClampNeg v, wrd) else none
    | [] => none
  | 3 => match σ with
    | a :: r => some (if isW a.toInt = true then (0, wrd a.toNatClampNeg :: r, loc, wrd) else (2, 0 :: r, loc, wrd))
    | [] => none
  | 4 => match σ with
    | a :: v :: r => some (if isW a.toInt = true then (0, r, loc, va_up wrd a.toNatClampNeg v) else (2, r, loc, wrd))
    | _ => none
  | 5 => match σ with
    | v :: r => some (0, -v :: r, loc, wrd)
    | [] => none
  | 6 => match σ with
    | v :: r => some (0, (v ^^^ (-1)) :: r, loc, wrd)
    | [] => none
  | 7 => match σ with
    | y :: x :: r => if inR k 11 = true then some (if (k = 3 ∨ k = 4) ∧ y = 0 then (3, r, loc, wrd) else (0, opr k.toNatClampNeg x y :: r, loc, wrd)) else none
    | _ => none
  | 8 => match σ with
    | y :: x :: r => if inR k 6 = true then some (0, rI (rel k.toNatClampNeg x y) :: r, loc, wrd) else none
    | _ => none
  | 9 => match σ with
    | y :: x :: r => if inR k 6 = true then some (0, rI (rel k.toNatClampNeg x y) :: y :: r, loc, wrd) else none
    | _ => none
  | 14 => match σ with
    | _ :: r => some (0, r, loc, wrd)
    | [] => none
  | 19 => match σ with
    | y :: x :: r => some (if isW (wAt x y) = true then (0, getb (wrd (wAt x y).toNat) y :: r, loc, wrd) else (2, 0 :: r, loc, wrd))
    | _ => none
  | 20 => match σ with
    | y :: x :: v :: r => some (if isW (wAt x y) = true then (0, r, loc, va_up wrd (wAt x y).toNat (setb (wrd (wAt x y).toNat) y v)) else (2, r, loc, wrd))
    | _ => none
  | _ => some (0, σ, loc, wrd)
theorem inR_nI {k : Int32} {b : Nat} (h : inR k b = true) : ∃ j : Nat, j < b ∧ k = nI j ∧ k.toNatClampNeg = j := by
  have h := of_decide_eq_true h
  have h3 := k.toInt_lt
  refine ⟨k.toInt.toNat, by omega, Int32.toInt_inj.mp ?_, rfl⟩
  rw [nI_toInt (by omega)]
  omega
theorem isW_in {a : Int32} : (decide ((0 : Int32) ≤ a ∧ a ≤ 63)) = isW a.toInt := by
  unfold isW
  rw [decide_eq_decide, Int32.le_iff_toInt_le, Int32.le_iff_toInt_le, show (0 : Int32).toInt = 0 from rfl, show (63 : Int32).toInt = 63 from rfl]
  omega
theorem isW_cl {a : Int32} (h : isW a.toInt = true) : a = nI a.toNatClampNeg ∧ a.toNatClampNeg < 64 := by
  obtain ⟨j, h1, rfl⟩ := isW_nI h
  rw [nI_clamp (by omega)]
  exact ⟨rfl, h1⟩
theorem CW.mono {l : Launch} {E : Bs} {DO DA : Nat → Prop} {y : MethodName} {bytes : ByteArray} {maxL : Nat} {ret : Option FieldType} {rm : Room} {av : List Value} {ρ : Nat → Nat} {g A : Nat → Nat → Int32} {n : Nat → Nat} {tx : Value} {post post' : Post} (M : CW l E DO DA y bytes maxL ret rm av ρ g A n tx post) (h : ∀ r ρ' g' A' n' tx', post r ρ' g' A' n' tx' → post' r ρ' g' A' n' tx') : CW l E DO DA y bytes maxL ret rm av ρ g A n tx post' := by
  intro p e ha hc hk s m args below hf happ hP hK
  obtain ⟨k, o, h1, h2, h3, ⟨⟨r, ρ', g', A', n', tx', q1, q2, q3⟩, q4⟩, h5⟩ := M p e ha hc hk s m args below hf happ hP hK
  exact ⟨k, o, h1, h2, h3, ⟨⟨r, ρ', g', A', n', tx', q1, h _ _ _ _ _ _ q2, q3⟩, q4⟩, h5⟩
/-- the state behind an instruction of the plain form -/
abbrev MdQ (σ' : List Int32) (loc' wrd' : Nat → Int32) (ρ : Nat → Nat) (g A : Nat → Nat → Int32) (n : Nat → Nat) (tx : Value) (ρ' : Nat → Nat) (g' A' : Nat → Nat → Int32) (n' : Nat → Nat) (tx' : Value) : Prop := ρ' = ρ ∧ g' = up2 g 6 11 (nI σ'.length) ∧ n' = n ∧ tx' = tx ∧ RowIs (A' 35) σ' ∧ A' 31 = loc' ∧ A' 32 = wrd' ∧ ∀ i, i ≠ 35 → i ≠ 31 → i ≠ 32 → A' i = A i

set_option maxHeartbeats 4000000 in
theorem c_MD_sets (l : Launch) {E : Bs} (hE : Hb E) {ρ : Nat → Nat} {g A : Nat → Nat → Int32} {n : Nat → Nat} {tx : Value} {y x v : Int32} {r : List Int32} (hn : MN n) (hh : g 6 11 = nI (r.length + 3)) (hl : r.length + 3 ≤ 61) (hr : RowIs (A 35) (y :: x :: v :: r)) : CW l E DM AM y_MD_sets b_MD_sets 6 (some .int) ({ frames := 1, cells := 0, slots := 0, locals := 23 } : Room) [.ref (E.o 6)] ρ g A n tx (fun rr ρ' g' A' n' tx' => ∃ e σ' loc' wrd', mdo 20 0 (y :: x :: v :: r) (A 31) (A 32) = some (e, σ', loc', wrd') ∧ rr = some (.int (nI e)) ∧ MdQ σ' loc' wrd' ρ g A n tx ρ' g' A' n' tx') := by
  obtain ⟨hn1, hn2, hn3, hn4, hn5, hn6, hn7⟩ := hn
  refine CW.start [some (.ref (E.o 6)), none, none, none, none, none] hE (by decide) (Nat.le_of_ble_eq_true rfl) rfl ?_
  intro p e s m args below meth c G
  obtain ⟨hr1, hr2, hr3, hr4⟩ := hr
  by_cases hw : isW (wAt x y) = true
  · skip
    have hw2 := of_decide_eq_true hw
    refine v_aload_n G (decAt dd_MD_sets 0 rfl) rfl ?_
    refine v_callVik G (As := []) (decAt dd_MD_sets 1 rfl) k_MD_83 (c_MD_pop l hE (h := r.length + 2) ⟨hn1, hn2, hn3, hn4, hn5, hn6, hn7⟩ hh (by omega)) rfl rfl rfl rfl (Nat.le_of_ble_eq_true rfl) (by decide) rfl rfl (by decide) ?_
    refine v_ri (y := y) hr1 ?_
    refine v_istore_1 G (decAt dd_MD_sets 2 rfl) (by decide) rfl ?_
    refine v_aload_n G (decAt dd_MD_sets 3 rfl) rfl ?_
    refine v_callVik G (As := []) (decAt dd_MD_sets 4 rfl) k_MD_83 (c_MD_pop l hE (h := r.length + 1) ⟨hn1, hn2, hn3, hn4, hn5, hn6, hn7⟩ up2_self (by omega)) rfl rfl rfl rfl (Nat.le_of_ble_eq_true rfl) (by decide) rfl rfl (by decide) ?_
    refine v_ri (y := x) hr2 ?_
    refine v_istore_2 G (decAt dd_MD_sets 5 rfl) (by decide) rfl ?_
    refine v_aload_n G (decAt dd_MD_sets 6 rfl) rfl ?_
    refine v_callVik G (As := []) (decAt dd_MD_sets 7 rfl) k_MD_83 (c_MD_pop l hE (h := r.length) ⟨hn1, hn2, hn3, hn4, hn5, hn6, hn7⟩ up2_self (by omega)) rfl rfl rfl rfl (Nat.le_of_ble_eq_true rfl) (by decide) rfl rfl (by decide) ?_
    refine v_ri (y := v) hr3 ?_
    refine v_istore_3 G (decAt dd_MD_sets 8 rfl) (by decide) rfl ?_
    refine v_iload_n G (decAt dd_MD_sets 9 rfl) rfl ?_
    refine v_iload_n G (decAt dd_MD_sets 10 rfl) rfl ?_
    refine p_callSi G (XB_Sy G) (As := [.int x, .int y]) (decAt dd_MD_sets 11 rfl) k_MD_94 (c_MD_wordOf l hE) rfl rfl (Nat.le_of_ble_eq_true rfl) (by decide) rfl rfl (by decide) ?_
    refine v_ri (y := nI (wAt x y).toNat) (if_pos hw) ?_
    refine v_istore_4 G (decAt dd_MD_sets 12 rfl) (by decide) rfl ?_
    refine v_iload G (decAt dd_MD_sets 13 rfl) rfl ?_
    refine v_iconst G (-1) (decAt dd_MD_sets 14 rfl) (by decide) ?_
    refine v_icmp_ne G 30 (decAt dd_MD_sets 15 rfl) (by decide) (fun c25 => ?_) (fun c25 => ?_)
    · skip
      refine v_bipush G 8 (decAt dd_MD_sets 18 rfl) (by decide) ?_
      refine v_iload_n G (decAt dd_MD_sets 19 rfl) rfl ?_
      refine v_iconst G 3 (decAt dd_MD_sets 20 rfl) (by decide) ?_
      refine v_iand G (decAt dd_MD_sets 21 rfl) ?_
      refine v_imul G (decAt dd_MD_sets 22 rfl) ?_
      refine v_istore_5 G (decAt dd_MD_sets 23 rfl) (by decide) rfl ?_
      refine v_aload_n G (decAt dd_MD_sets 24 rfl) rfl ?_
      refine v_geta G (decAt dd_MD_sets 25 rfl) f_MD_19 ?_
      refine v_iload G (decAt dd_MD_sets 26 rfl) rfl ?_
      refine v_aload_n G (decAt dd_MD_sets 27 rfl) rfl ?_
      refine v_geta G (decAt dd_MD_sets 28 rfl) f_MD_19 ?_
      refine v_iload G (decAt dd_MD_sets 29 rfl) rfl ?_
      refine v_iald G 32 (wAt x y).toNat (decAt dd_MD_sets 30 rfl) (by decide) rfl rfl (by omega) ?_
      refine v_sipush G 255 (decAt dd_MD_sets 31 rfl) (by decide) ?_
      refine v_iload G (decAt dd_MD_sets 32 rfl) rfl ?_
      refine v_ishl G (decAt dd_MD_sets 33 rfl) ?_
      refine v_iconst G (-1) (decAt dd_MD_sets 34 rfl) (by decide) ?_
      refine v_ixor G (decAt dd_MD_sets 35 rfl) ?_
      refine v_iand G (decAt dd_MD_sets 36 rfl) ?_
      refine v_iload_n G (decAt dd_MD_sets 37 rfl) rfl ?_
      refine v_sipush G 255 (decAt dd_MD_sets 38 rfl) (by decide) ?_
      refine v_iand G (decAt dd_MD_sets 39 rfl) ?_
      refine v_iload G (decAt dd_MD_sets 40 rfl) rfl ?_
      refine v_ishl G (decAt dd_MD_sets 41 rfl) ?_
      refine v_ior G (decAt dd_MD_sets 42 rfl) ?_
      refine v_iast G 32 (wAt x y).toNat (decAt dd_MD_sets 43 rfl) (by decide) rfl rfl (by omega) ?_
      refine v_iconst G 0 (decAt dd_MD_sets 44 rfl) (by decide) ?_
      exact v_iret G (decAt dd_MD_sets 45 rfl) rfl ⟨0, r, A 31, va_up (A 32) (wAt x y).toNat (setb (A 32 (wAt x y).toNat) y v), (by simp only [mdo, hw, if_true]), rfl, rfl, (by rw [up2_up2, up2_up2]), rfl, rfl, hr4, rfl, rfl, fun i h1 h2 h3 => va_up_ne _ _ h3⟩
    · skip
      exact absurd (congrArg Int32.toInt c25) (by rw [nI_toInt (by omega)]; show ¬ _ = (-1 : Int); omega)
  · skip
    refine v_aload_n G (decAt dd_MD_sets 0 rfl) rfl ?_
    refine v_callVik G (As := []) (decAt dd_MD_sets 1 rfl) k_MD_83 (c_MD_pop l hE (h := r.length + 2) ⟨hn1, hn2, hn3, hn4, hn5, hn6, hn7⟩ hh (by omega)) rfl rfl rfl rfl (Nat.le_of_ble_eq_true rfl) (by decide) rfl rfl (by decide) ?_
    refine v_ri (y := y) hr1 ?_
    refine v_istore_1 G (decAt dd_MD_sets 2 rfl) (by decide) rfl ?_
    refine v_aload_n G (decAt dd_MD_sets 3 rfl) rfl ?_
    refine v_callVik G (As := []) (decAt dd_MD_sets 4 rfl) k_MD_83 (c_MD_pop l hE (h := r.length + 1) ⟨hn1, hn2, hn3, hn4, hn5, hn6, hn7⟩ up2_self (by omega)) rfl rfl rfl rfl (Nat.le_of_ble_eq_true rfl) (by decide) rfl rfl (by decide) ?_
    refine v_ri (y := x) hr2 ?_
    refine v_istore_2 G (decAt dd_MD_sets 5 rfl) (by decide) rfl ?_
    refine v_aload_n G (decAt dd_MD_sets 6 rfl) rfl ?_
    refine v_callVik G (As := []) (decAt dd_MD_sets 7 rfl) k_MD_83 (c_MD_pop l hE (h := r.length) ⟨hn1, hn2, hn3, hn4, hn5, hn6, hn7⟩ up2_self (by omega)) rfl rfl rfl rfl (Nat.le_of_ble_eq_true rfl) (by decide) rfl rfl (by decide) ?_
    refine v_ri (y := v) hr3 ?_
    refine v_istore_3 G (decAt dd_MD_sets 8 rfl) (by decide) rfl ?_
    refine v_iload_n G (decAt dd_MD_sets 9 rfl) rfl ?_
    refine v_iload_n G (decAt dd_MD_sets 10 rfl) rfl ?_
    refine p_callSi G (XB_Sy G) (As := [.int x, .int y]) (decAt dd_MD_sets 11 rfl) k_MD_94 (c_MD_wordOf l hE) rfl rfl (Nat.le_of_ble_eq_true rfl) (by decide) rfl rfl (by decide) ?_
    refine v_ri (y := -1) (if_neg hw) ?_
    refine v_istore_4 G (decAt dd_MD_sets 12 rfl) (by decide) rfl ?_
    refine v_iload G (decAt dd_MD_sets 13 rfl) rfl ?_
    refine v_iconst G (-1) (decAt dd_MD_sets 14 rfl) (by decide) ?_
    refine v_icmp_ne G 30 (decAt dd_MD_sets 15 rfl) (by decide) (fun c25 => ?_) (fun c25 => ?_)
    · skip
      exact absurd rfl c25
    · skip
      refine v_iconst G 2 (decAt dd_MD_sets 16 rfl) (by decide) ?_
      exact v_iret G (decAt dd_MD_sets 17 rfl) rfl ⟨2, r, A 31, A 32, (by simp only [mdo, hw, if_false, Bool.false_eq_true]), rfl, rfl, (by rw [up2_up2, up2_up2]), rfl, rfl, hr4, rfl, rfl, fun i h1 h2 h3 => rfl⟩
set_option maxHeartbeats 4000000 in
theorem c_MD_does (l : Launch) {E : Bs} (hE : Hb E) {ρ : Nat → Nat} {g A : Nat → Nat → Int32} {n : Nat → Nat} {tx : Value} {N : Nat} {k : Int32} {σ : List Int32} {ev : Nat} {σ' : List Int32} {loc' wrd' : Nat → Int32} (hN : N ≤ 20) (hm : mdo N k σ (A 31) (A 32) = some (ev, σ', loc', wrd')) (hn : MN n) (hh : g 6 11 = nI σ.length) (hl : σ.length ≤ 61) (hr : RowIs (A 35) σ) : CW l E DM AM y_MD_does b_MD_does 7 (some .int) ({ frames := 2, cells := 0, slots := 0, locals := 48 } : Room) [.ref (E.o 6), .int (nI N), .int k] ρ g A n tx (fun r ρ' g' A' n' tx' => r = some (.int (nI ev)) ∧ MdQ σ' loc' wrd' ρ g A n tx ρ' g' A' n' tx') := by
  obtain ⟨hn1, hn2, hn3, hn4, hn5, hn6, hn7⟩ := hn
  refine CW.start [some (.ref (E.o 6)), some (.int (nI N)), some (.int k), none, none, none, none] hE (by decide) (Nat.le_of_ble_eq_true rfl) rfl ?_
  intro p e s m args below meth c G
  rcases (show N = 0 ∨ N = 1 ∨ N = 2 ∨ N = 3 ∨ N = 4 ∨ N = 5 ∨ N = 6 ∨ N = 7 ∨ N = 8 ∨ N = 9 ∨ N = 10 ∨ N = 11 ∨ N = 12 ∨ N = 13 ∨ N = 14 ∨ N = 15 ∨ N = 16 ∨ N = 17 ∨ N = 18 ∨ N = 19 ∨ N = 20 by omega) with rfl | rfl | rfl | rfl | rfl | rfl | rfl | rfl | rfl | rfl | rfl | rfl | rfl | rfl | rfl | rfl | rfl | rfl | rfl | rfl | rfl
  · skip
    have hc : σ.length < 61 := by
      rcases Nat.lt_or_ge σ.length 61 with q | q
      · exact q
      · rw [show mdo 0 k σ (A 31) (A 32) = none from if_neg (by omega)] at hm; cases hm
    rw [show mdo 0 k σ (A 31) (A 32) = some (0, k :: σ, A 31, A 32) from if_pos hc] at hm
    simp only [Option.some.injEq, Prod.mk.injEq] at hm
    obtain ⟨he1, he2, he3, he4⟩ := hm
    subst he1
    subst he2
    subst he3
    subst he4
    refine v_iload_n G (decAt dd_MD_does 0 rfl) rfl ?_
    refine v_tswIn G 100 (decAt dd_MD_does 1 rfl) (by decide) (by decide) rfl (by decide) ?_
    refine v_aload_n G (decAt dd_MD_does 2 rfl) rfl ?_
    refine v_iload_n G (decAt dd_MD_does 3 rfl) rfl ?_
    refine v_callVvk G (As := [.int k]) (decAt dd_MD_does 4 rfl) k_MD_79 (c_MD_push l hE (h := σ.length) ⟨hn1, hn2, hn3, hn4, hn5, hn6, hn7⟩ hh (by omega)) rfl rfl rfl rfl (Nat.le_of_ble_eq_true rfl) (by decide) rfl rfl (by decide) ?_
    refine v_iconst G 0 (decAt dd_MD_does 5 rfl) (by decide) ?_
    exact v_iret G (decAt dd_MD_does 6 rfl) rfl ⟨rfl, rfl, rfl, rfl, rfl, hr.push, rfl, rfl, fun i h1 h2 h3 => va_up_ne _ _ h1⟩
  · skip
    have hc : σ.length < 61 ∧ inR k 16 = true := by
      by_cases q : σ.length < 61 ∧ inR k 16 = true
      · exact q
      · rw [show mdo 1 k σ (A 31) (A 32) = none from if_neg q] at hm; cases hm
    rw [show mdo 1 k σ (A 31) (A 32) = some (0, A 31 k.toNatClampNeg :: σ, A 31, A 32) from if_pos hc] at hm
    simp only [Option.some.injEq, Prod.mk.injEq] at hm
    obtain ⟨he1, he2, he3, he4⟩ := hm
    subst he1
    subst he2
    subst he3
    subst he4
    obtain ⟨hc, hk⟩ := hc
    obtain ⟨j, hj, rfl, hcl⟩ := inR_nI hk
    rw [hcl]
    refine v_iload_n G (decAt dd_MD_does 0 rfl) rfl ?_
    refine v_tswIn G 107 (decAt dd_MD_does 1 rfl) (by decide) (by decide) rfl (by decide) ?_
    refine v_aload_n G (decAt dd_MD_does 7 rfl) rfl ?_
    refine v_aload_n G (decAt dd_MD_does 8 rfl) rfl ?_
    refine v_geta G (decAt dd_MD_does 9 rfl) f_MD_16 ?_
    refine v_iload_n G (decAt dd_MD_does 10 rfl) rfl ?_
    refine v_iald G 31 _ (decAt dd_MD_does 11 rfl) (by decide) rfl (by first | with_reducible rfl | with_reducible exact nI_1 _ | with_reducible exact nI_add _ _ | assumption) (by omega) ?_
    refine v_callVvk G (As := [.int ((A 31) j)]) (decAt dd_MD_does 12 rfl) k_MD_79 (c_MD_push l hE (h := σ.length) ⟨hn1, hn2, hn3, hn4, hn5, hn6, hn7⟩ hh (by omega)) rfl rfl rfl rfl (Nat.le_of_ble_eq_true rfl) (by decide) rfl rfl (by decide) ?_
    refine v_iconst G 0 (decAt dd_MD_does 13 rfl) (by decide) ?_
    exact v_iret G (decAt dd_MD_does 14 rfl) rfl ⟨rfl, rfl, rfl, rfl, rfl, hr.push, rfl, rfl, fun i h1 h2 h3 => va_up_ne _ _ h1⟩
  · skip
    obtain ⟨v, r, rfl⟩ : ∃ v r, σ = v :: r := by
      rcases σ with _ | ⟨v, r⟩
      · simp [mdo] at hm
      · exact ⟨_, _, rfl⟩
    have hl0 : r.length + 1 ≤ 61 := hl
    have hk : inR k 16 = true := by
      by_cases q : inR k 16 = true
      · exact q
      · rw [show mdo 2 k (v :: r) (A 31) (A 32) = none from if_neg q] at hm; cases hm
    rw [show mdo 2 k (v :: r) (A 31) (A 32) = some (0, r, va_up (A 31) k.toNatClampNeg v, A 32) from if_pos hk] at hm
    simp only [Option.some.injEq, Prod.mk.injEq] at hm
    obtain ⟨he1, he2, he3, he4⟩ := hm
    subst he1
    subst he2
    subst he3
    subst he4
    obtain ⟨j, hj, rfl, hcl⟩ := inR_nI hk
    rw [hcl]
    refine v_iload_n G (decAt dd_MD_does 0 rfl) rfl ?_
    refine v_tswIn G 119 (decAt dd_MD_does 1 rfl) (by decide) (by decide) rfl (by decide) ?_
    refine v_aload_n G (decAt dd_MD_does 15 rfl) rfl ?_
    refine v_geta G (decAt dd_MD_does 16 rfl) f_MD_16 ?_
    refine v_iload_n G (decAt dd_MD_does 17 rfl) rfl ?_
    refine v_aload_n G (decAt dd_MD_does 18 rfl) rfl ?_
    refine v_callVik G (As := []) (decAt dd_MD_does 19 rfl) k_MD_83 (c_MD_pop l hE (h := r.length) ⟨hn1, hn2, hn3, hn4, hn5, hn6, hn7⟩ hh (by omega)) rfl rfl rfl rfl (Nat.le_of_ble_eq_true rfl) (by decide) rfl rfl (by decide) ?_
    refine v_ri (y := v) hr.1 ?_
    refine v_iast G 31 _ (decAt dd_MD_does 20 rfl) (by decide) rfl (by first | with_reducible rfl | with_reducible exact nI_1 _ | with_reducible exact nI_add _ _ | assumption) (by omega) ?_
    refine v_iconst G 0 (decAt dd_MD_does 21 rfl) (by decide) ?_
    exact v_iret G (decAt dd_MD_does 22 rfl) rfl ⟨rfl, rfl, rfl, rfl, rfl, hr.2, rfl, rfl, fun i h1 h2 h3 => va_up_ne _ _ h2⟩
  · skip
    obtain ⟨v, r, rfl⟩ : ∃ v r, σ = v :: r := by
      rcases σ with _ | ⟨v, r⟩
      · simp [mdo] at hm
      · exact ⟨_, _, rfl⟩
    have hl0 : r.length + 1 ≤ 61 := hl
    by_cases hw : isW v.toInt = true
    · skip
      rw [show mdo 3 k (v :: r) (A 31) (A 32) = some (0, A 32 v.toNatClampNeg :: r, A 31, A 32) from congrArg some (if_pos hw)] at hm
      simp only [Option.some.injEq, Prod.mk.injEq] at hm
      obtain ⟨he1, he2, he3, he4⟩ := hm
      subst he1
      subst he2
      subst he3
      subst he4
      obtain ⟨hv1, hv2⟩ := isW_cl hw
      refine v_iload_n G (decAt dd_MD_does 0 rfl) rfl ?_
      refine v_tswIn G 131 (decAt dd_MD_does 1 rfl) (by decide) (by decide) rfl (by decide) ?_
      refine v_aload_n G (decAt dd_MD_does 23 rfl) rfl ?_
      refine v_callVik G (As := []) (decAt dd_MD_does 24 rfl) k_MD_83 (c_MD_pop l hE (h := r.length) ⟨hn1, hn2, hn3, hn4, hn5, hn6, hn7⟩ hh (by omega)) rfl rfl rfl rfl (Nat.le_of_ble_eq_true rfl) (by decide) rfl rfl (by decide) ?_
      refine v_ri (y := v) hr.1 ?_
      refine v_istore_5 G (decAt dd_MD_does 25 rfl) (by decide) rfl ?_
      refine v_aload_n G (decAt dd_MD_does 26 rfl) rfl ?_
      refine v_iload G (decAt dd_MD_does 27 rfl) rfl ?_
      refine v_iconst G 0 (decAt dd_MD_does 28 rfl) (by decide) ?_
      refine v_bipush G 63 (decAt dd_MD_does 29 rfl) (by decide) ?_
      refine p_callSi G (XB_Sy G) (As := [.int v, .int 0, .int 63]) (decAt dd_MD_does 30 rfl) k_MD_39 (c_MD_in l hE) rfl rfl (Nat.le_of_ble_eq_true rfl) (by decide) rfl rfl (by decide) ?_
      refine v_ri (y := 1) (by rw [isW_in, hw]; rfl) ?_
      refine v_if_eq G 159 (decAt dd_MD_does 31 rfl) (by decide) (fun c146 => ?_) (fun c146 => ?_)
      · skip
        exact absurd c146 (by decide)
      · skip
        refine v_aload_n G (decAt dd_MD_does 32 rfl) rfl ?_
        refine v_geta G (decAt dd_MD_does 33 rfl) f_MD_19 ?_
        refine v_iload G (decAt dd_MD_does 34 rfl) rfl ?_
        refine v_iald G 32 v.toNatClampNeg (decAt dd_MD_does 35 rfl) (by decide) rfl hv1 (by omega) ?_
        refine v_goto G 160 (decAt dd_MD_does 36 rfl) (by decide) ?_
        refine v_callVvk G (As := [.int ((A 32) v.toNatClampNeg)]) (decAt dd_MD_does 38 rfl) k_MD_79 (c_MD_push l hE (h := r.length) ⟨hn1, hn2, hn3, hn4, hn5, hn6, hn7⟩ up2_self (by omega)) rfl rfl rfl rfl (Nat.le_of_ble_eq_true rfl) (by decide) rfl rfl (by decide) ?_
        refine v_iload G (decAt dd_MD_does 39 rfl) rfl ?_
        refine v_iconst G 0 (decAt dd_MD_does 40 rfl) (by decide) ?_
        refine v_bipush G 63 (decAt dd_MD_does 41 rfl) (by decide) ?_
        refine p_callSi G (XB_Sy G) (As := [.int v, .int 0, .int 63]) (decAt dd_MD_does 42 rfl) k_MD_39 (c_MD_in l hE) rfl rfl (Nat.le_of_ble_eq_true rfl) (by decide) rfl rfl (by decide) ?_
        refine v_ri (y := 1) (by rw [isW_in, hw]; rfl) ?_
        refine v_if_eq G 178 (decAt dd_MD_does 43 rfl) (by decide) (fun c171 => ?_) (fun c171 => ?_)
        · skip
          exact absurd c171 (by decide)
        · skip
          refine v_iconst G 0 (decAt dd_MD_does 44 rfl) (by decide) ?_
          refine v_goto G 179 (decAt dd_MD_does 45 rfl) (by decide) ?_
          exact v_iret G (decAt dd_MD_does 47 rfl) rfl ⟨rfl, rfl, (up2_up2 _ _ _ _ _), rfl, rfl, hr.2.push, rfl, rfl, fun i h1 h2 h3 => va_up_ne _ _ h1⟩
    · skip
      rw [show mdo 3 k (v :: r) (A 31) (A 32) = some (2, 0 :: r, A 31, A 32) from congrArg some (if_neg hw)] at hm
      simp only [Option.some.injEq, Prod.mk.injEq] at hm
      obtain ⟨he1, he2, he3, he4⟩ := hm
      subst he1
      subst he2
      subst he3
      subst he4
      refine v_iload_n G (decAt dd_MD_does 0 rfl) rfl ?_
      refine v_tswIn G 131 (decAt dd_MD_does 1 rfl) (by decide) (by decide) rfl (by decide) ?_
      refine v_aload_n G (decAt dd_MD_does 23 rfl) rfl ?_
      refine v_callVik G (As := []) (decAt dd_MD_does 24 rfl) k_MD_83 (c_MD_pop l hE (h := r.length) ⟨hn1, hn2, hn3, hn4, hn5, hn6, hn7⟩ hh (by omega)) rfl rfl rfl rfl (Nat.le_of_ble_eq_true rfl) (by decide) rfl rfl (by decide) ?_
      refine v_ri (y := v) hr.1 ?_
      refine v_istore_5 G (decAt dd_MD_does 25 rfl) (by decide) rfl ?_
      refine v_aload_n G (decAt dd_MD_does 26 rfl) rfl ?_
      refine v_iload G (decAt dd_MD_does 27 rfl) rfl ?_
      refine v_iconst G 0 (decAt dd_MD_does 28 rfl) (by decide) ?_
      refine v_bipush G 63 (decAt dd_MD_does 29 rfl) (by decide) ?_
      refine p_callSi G (XB_Sy G) (As := [.int v, .int 0, .int 63]) (decAt dd_MD_does 30 rfl) k_MD_39 (c_MD_in l hE) rfl rfl (Nat.le_of_ble_eq_true rfl) (by decide) rfl rfl (by decide) ?_
      refine v_ri (y := 0) (by rw [isW_in, Bool.not_eq_true _ |>.mp hw]; rfl) ?_
      refine v_if_eq G 159 (decAt dd_MD_does 31 rfl) (by decide) (fun c146 => ?_) (fun c146 => ?_)
      · skip
        refine v_iconst G 0 (decAt dd_MD_does 37 rfl) (by decide) ?_
        refine v_callVvk G (As := [.int 0]) (decAt dd_MD_does 38 rfl) k_MD_79 (c_MD_push l hE (h := r.length) ⟨hn1, hn2, hn3, hn4, hn5, hn6, hn7⟩ up2_self (by omega)) rfl rfl rfl rfl (Nat.le_of_ble_eq_true rfl) (by decide) rfl rfl (by decide) ?_
        refine v_iload G (decAt dd_MD_does 39 rfl) rfl ?_
        refine v_iconst G 0 (decAt dd_MD_does 40 rfl) (by decide) ?_
        refine v_bipush G 63 (decAt dd_MD_does 41 rfl) (by decide) ?_
        refine p_callSi G (XB_Sy G) (As := [.int v, .int 0, .int 63]) (decAt dd_MD_does 42 rfl) k_MD_39 (c_MD_in l hE) rfl rfl (Nat.le_of_ble_eq_true rfl) (by decide) rfl rfl (by decide) ?_
        refine v_ri (y := 0) (by rw [isW_in, Bool.not_eq_true _ |>.mp hw]; rfl) ?_
        refine v_if_eq G 178 (decAt dd_MD_does 43 rfl) (by decide) (fun c171 => ?_) (fun c171 => ?_)
        · skip
          refine v_iconst G 2 (decAt dd_MD_does 46 rfl) (by decide) ?_
          exact v_iret G (decAt dd_MD_does 47 rfl) rfl ⟨rfl, rfl, (up2_up2 _ _ _ _ _), rfl, rfl, hr.2.push, rfl, rfl, fun i h1 h2 h3 => va_up_ne _ _ h1⟩
        · skip
          exact absurd rfl c171
      · skip
        exact absurd rfl c146
  · skip
    obtain ⟨y, x, r, rfl⟩ : ∃ y x r, σ = y :: x :: r := by
      rcases σ with _ | ⟨y, _ | ⟨x, r⟩⟩
      · simp [mdo] at hm
      · simp [mdo] at hm
      · exact ⟨_, _, _, rfl⟩
    have hl0 : r.length + 2 ≤ 61 := hl
    by_cases hw : isW y.toInt = true
    · skip
      rw [show mdo 4 k (y :: x :: r) (A 31) (A 32) = some (0, r, A 31, va_up (A 32) y.toNatClampNeg x) from congrArg some (if_pos hw)] at hm
      simp only [Option.some.injEq, Prod.mk.injEq] at hm
      obtain ⟨he1, he2, he3, he4⟩ := hm
      subst he1
      subst he2
      subst he3
      subst he4
      obtain ⟨hv1, hv2⟩ := isW_cl hw
      refine v_iload_n G (decAt dd_MD_does 0 rfl) rfl ?_
      refine v_tswIn G 180 (decAt dd_MD_does 1 rfl) (by decide) (by decide) rfl (by decide) ?_
      refine v_aload_n G (decAt dd_MD_does 48 rfl) rfl ?_
      refine v_callVik G (As := []) (decAt dd_MD_does 49 rfl) k_MD_83 (c_MD_pop l hE (h := r.length + 1) ⟨hn1, hn2, hn3, hn4, hn5, hn6, hn7⟩ hh (by omega)) rfl rfl rfl rfl (Nat.le_of_ble_eq_true rfl) (by decide) rfl rfl (by decide) ?_
      refine v_ri (y := y) hr.1 ?_
      refine v_istore_5 G (decAt dd_MD_does 50 rfl) (by decide) rfl ?_
      refine v_aload_n G (decAt dd_MD_does 51 rfl) rfl ?_
      refine v_callVik G (As := []) (decAt dd_MD_does 52 rfl) k_MD_83 (c_MD_pop l hE (h := r.length) ⟨hn1, hn2, hn3, hn4, hn5, hn6, hn7⟩ up2_self (by omega)) rfl rfl rfl rfl (Nat.le_of_ble_eq_true rfl) (by decide) rfl rfl (by decide) ?_
      refine v_ri (y := x) hr.2.1 ?_
      refine v_istore_6 G (decAt dd_MD_does 53 rfl) (by decide) rfl ?_
      refine v_iload G (decAt dd_MD_does 54 rfl) rfl ?_
      refine v_iconst G 0 (decAt dd_MD_does 55 rfl) (by decide) ?_
      refine v_bipush G 63 (decAt dd_MD_does 56 rfl) (by decide) ?_
      refine p_callSi G (XB_Sy G) (As := [.int y, .int 0, .int 63]) (decAt dd_MD_does 57 rfl) k_MD_39 (c_MD_in l hE) rfl rfl (Nat.le_of_ble_eq_true rfl) (by decide) rfl rfl (by decide) ?_
      refine v_ri (y := 1) (by rw [isW_in, hw]; rfl) ?_
      refine v_if_ne G 205 (decAt dd_MD_does 58 rfl) (by decide) (fun c200 => ?_) (fun c200 => ?_)
      · skip
        refine v_aload_n G (decAt dd_MD_does 61 rfl) rfl ?_
        refine v_geta G (decAt dd_MD_does 62 rfl) f_MD_19 ?_
        refine v_iload G (decAt dd_MD_does 63 rfl) rfl ?_
        refine v_iload G (decAt dd_MD_does 64 rfl) rfl ?_
        refine v_iast G 32 y.toNatClampNeg (decAt dd_MD_does 65 rfl) (by decide) rfl hv1 (by omega) ?_
        refine v_iconst G 0 (decAt dd_MD_does 66 rfl) (by decide) ?_
        exact v_iret G (decAt dd_MD_does 67 rfl) rfl ⟨rfl, rfl, (up2_up2 _ _ _ _ _), rfl, rfl, hr.2.2, rfl, rfl, fun i h1 h2 h3 => va_up_ne _ _ h3⟩
      · skip
        exact absurd c200 (by decide)
    · skip
      rw [show mdo 4 k (y :: x :: r) (A 31) (A 32) = some (2, r, A 31, A 32) from congrArg some (if_neg hw)] at hm
      simp only [Option.some.injEq, Prod.mk.injEq] at hm
      obtain ⟨he1, he2, he3, he4⟩ := hm
      subst he1
      subst he2
      subst he3
      subst he4
      refine v_iload_n G (decAt dd_MD_does 0 rfl) rfl ?_
      refine v_tswIn G 180 (decAt dd_MD_does 1 rfl) (by decide) (by decide) rfl (by decide) ?_
      refine v_aload_n G (decAt dd_MD_does 48 rfl) rfl ?_
      refine v_callVik G (As := []) (decAt dd_MD_does 49 rfl) k_MD_83 (c_MD_pop l hE (h := r.length + 1) ⟨hn1, hn2, hn3, hn4, hn5, hn6, hn7⟩ hh (by omega)) rfl rfl rfl rfl (Nat.le_of_ble_eq_true rfl) (by decide) rfl rfl (by decide) ?_
      refine v_ri (y := y) hr.1 ?_
      refine v_istore_5 G (decAt dd_MD_does 50 rfl) (by decide) rfl ?_
      refine v_aload_n G (decAt dd_MD_does 51 rfl) rfl ?_
      refine v_callVik G (As := []) (decAt dd_MD_does 52 rfl) k_MD_83 (c_MD_pop l hE (h := r.length) ⟨hn1, hn2, hn3, hn4, hn5, hn6, hn7⟩ up2_self (by omega)) rfl rfl rfl rfl (Nat.le_of_ble_eq_true rfl) (by decide) rfl rfl (by decide) ?_
      refine v_ri (y := x) hr.2.1 ?_
      refine v_istore_6 G (decAt dd_MD_does 53 rfl) (by decide) rfl ?_
      refine v_iload G (decAt dd_MD_does 54 rfl) rfl ?_
      refine v_iconst G 0 (decAt dd_MD_does 55 rfl) (by decide) ?_
      refine v_bipush G 63 (decAt dd_MD_does 56 rfl) (by decide) ?_
      refine p_callSi G (XB_Sy G) (As := [.int y, .int 0, .int 63]) (decAt dd_MD_does 57 rfl) k_MD_39 (c_MD_in l hE) rfl rfl (Nat.le_of_ble_eq_true rfl) (by decide) rfl rfl (by decide) ?_
      refine v_ri (y := 0) (by rw [isW_in, Bool.not_eq_true _ |>.mp hw]; rfl) ?_
      refine v_if_ne G 205 (decAt dd_MD_does 58 rfl) (by decide) (fun c200 => ?_) (fun c200 => ?_)
      · skip
        exact absurd rfl c200
      · skip
        refine v_iconst G 2 (decAt dd_MD_does 59 rfl) (by decide) ?_
        exact v_iret G (decAt dd_MD_does 60 rfl) rfl ⟨rfl, rfl, (up2_up2 _ _ _ _ _), rfl, rfl, hr.2.2, rfl, rfl, fun i h1 h2 h3 => rfl⟩
  · skip
    obtain ⟨v, r, rfl⟩ : ∃ v r, σ = v :: r := by
      rcases σ with _ | ⟨v, r⟩
      · simp [mdo] at hm
      · exact ⟨_, _, rfl⟩
    have hl0 : r.length + 1 ≤ 61 := hl
    replace hm : (some (0, -v :: r, A 31, A 32) : Option Env1) = some _ := hm
    simp only [Option.some.injEq, Prod.mk.injEq] at hm
    obtain ⟨he1, he2, he3, he4⟩ := hm
    subst he1
    subst he2
    subst he3
    subst he4
    refine v_iload_n G (decAt dd_MD_does 0 rfl) rfl ?_
    refine v_tswIn G 216 (decAt dd_MD_does 1 rfl) (by decide) (by decide) rfl (by decide) ?_
    refine v_aload_n G (decAt dd_MD_does 68 rfl) rfl ?_
    refine v_aload_n G (decAt dd_MD_does 69 rfl) rfl ?_
    refine v_callVik G (As := []) (decAt dd_MD_does 70 rfl) k_MD_83 (c_MD_pop l hE (h := r.length) ⟨hn1, hn2, hn3, hn4, hn5, hn6, hn7⟩ hh (by omega)) rfl rfl rfl rfl (Nat.le_of_ble_eq_true rfl) (by decide) rfl rfl (by decide) ?_
    refine v_ri (y := v) hr.1 ?_
    refine v_ineg G (decAt dd_MD_does 71 rfl) ?_
    refine v_callVvk G (As := [.int (-v)]) (decAt dd_MD_does 72 rfl) k_MD_79 (c_MD_push l hE (h := r.length) ⟨hn1, hn2, hn3, hn4, hn5, hn6, hn7⟩ up2_self (by omega)) rfl rfl rfl rfl (Nat.le_of_ble_eq_true rfl) (by decide) rfl rfl (by decide) ?_
    refine v_iconst G 0 (decAt dd_MD_does 73 rfl) (by decide) ?_
    exact v_iret G (decAt dd_MD_does 74 rfl) rfl ⟨rfl, rfl, (up2_up2 _ _ _ _ _), rfl, rfl, hr.2.push, rfl, rfl, fun i h1 h2 h3 => va_up_ne _ _ h1⟩
  · skip
    obtain ⟨v, r, rfl⟩ : ∃ v r, σ = v :: r := by
      rcases σ with _ | ⟨v, r⟩
      · simp [mdo] at hm
      · exact ⟨_, _, rfl⟩
    have hl0 : r.length + 1 ≤ 61 := hl
    replace hm : (some (0, (v ^^^ (-1)) :: r, A 31, A 32) : Option Env1) = some _ := hm
    simp only [Option.some.injEq, Prod.mk.injEq] at hm
    obtain ⟨he1, he2, he3, he4⟩ := hm
    subst he1
    subst he2
    subst he3
    subst he4
    refine v_iload_n G (decAt dd_MD_does 0 rfl) rfl ?_
    refine v_tswIn G 227 (decAt dd_MD_does 1 rfl) (by decide) (by decide) rfl (by decide) ?_
    refine v_aload_n G (decAt dd_MD_does 75 rfl) rfl ?_
    refine v_aload_n G (decAt dd_MD_does 76 rfl) rfl ?_
    refine v_callVik G (As := []) (decAt dd_MD_does 77 rfl) k_MD_83 (c_MD_pop l hE (h := r.length) ⟨hn1, hn2, hn3, hn4, hn5, hn6, hn7⟩ hh (by omega)) rfl rfl rfl rfl (Nat.le_of_ble_eq_true rfl) (by decide) rfl rfl (by decide) ?_
    refine v_ri (y := v) hr.1 ?_
    refine v_iconst G (-1) (decAt dd_MD_does 78 rfl) (by decide) ?_
    refine v_ixor G (decAt dd_MD_does 79 rfl) ?_
    refine v_callVvk G (As := [.int (v ^^^ (-1))]) (decAt dd_MD_does 80 rfl) k_MD_79 (c_MD_push l hE (h := r.length) ⟨hn1, hn2, hn3, hn4, hn5, hn6, hn7⟩ up2_self (by omega)) rfl rfl rfl rfl (Nat.le_of_ble_eq_true rfl) (by decide) rfl rfl (by decide) ?_
    refine v_iconst G 0 (decAt dd_MD_does 81 rfl) (by decide) ?_
    exact v_iret G (decAt dd_MD_does 82 rfl) rfl ⟨rfl, rfl, (up2_up2 _ _ _ _ _), rfl, rfl, hr.2.push, rfl, rfl, fun i h1 h2 h3 => va_up_ne _ _ h1⟩
  · skip
    obtain ⟨y, x, r, rfl⟩ : ∃ y x r, σ = y :: x :: r := by
      rcases σ with _ | ⟨y, _ | ⟨x, r⟩⟩
      · simp [mdo] at hm
      · simp [mdo] at hm
      · exact ⟨_, _, _, rfl⟩
    have hl0 : r.length + 2 ≤ 61 := hl
    have hk : inR k 11 = true := by
      by_cases q : inR k 11 = true
      · exact q
      · rw [show mdo 7 k (y :: x :: r) (A 31) (A 32) = none from if_neg q] at hm; cases hm
    by_cases hz : (k = 3 ∨ k = 4) ∧ y = 0
    · skip
      rw [show mdo 7 k (y :: x :: r) (A 31) (A 32) = some (3, r, A 31, A 32) from (if_pos hk).trans (congrArg some (if_pos hz))] at hm
      simp only [Option.some.injEq, Prod.mk.injEq] at hm
      obtain ⟨he1, he2, he3, he4⟩ := hm
      subst he1
      subst he2
      subst he3
      subst he4
      refine v_iload_n G (decAt dd_MD_does 0 rfl) rfl ?_
      refine v_tswIn G 239 (decAt dd_MD_does 1 rfl) (by decide) (by decide) rfl (by decide) ?_
      refine v_aload_n G (decAt dd_MD_does 83 rfl) rfl ?_
      refine v_callVik G (As := []) (decAt dd_MD_does 84 rfl) k_MD_83 (c_MD_pop l hE (h := r.length + 1) ⟨hn1, hn2, hn3, hn4, hn5, hn6, hn7⟩ hh (by omega)) rfl rfl rfl rfl (Nat.le_of_ble_eq_true rfl) (by decide) rfl rfl (by decide) ?_
      refine v_ri (y := y) hr.1 ?_
      refine v_istore_4 G (decAt dd_MD_does 85 rfl) (by decide) rfl ?_
      refine v_aload_n G (decAt dd_MD_does 86 rfl) rfl ?_
      refine v_callVik G (As := []) (decAt dd_MD_does 87 rfl) k_MD_83 (c_MD_pop l hE (h := r.length) ⟨hn1, hn2, hn3, hn4, hn5, hn6, hn7⟩ up2_self (by omega)) rfl rfl rfl rfl (Nat.le_of_ble_eq_true rfl) (by decide) rfl rfl (by decide) ?_
      refine v_ri (y := x) hr.2.1 ?_
      refine v_istore_3 G (decAt dd_MD_does 88 rfl) (by decide) rfl ?_
      refine v_iload_n G (decAt dd_MD_does 89 rfl) rfl ?_
      refine v_iconst G 3 (decAt dd_MD_does 90 rfl) (by decide) ?_
      refine v_icmp_eq G 260 (decAt dd_MD_does 91 rfl) (by decide) (fun c252 => ?_) (fun c252 => ?_)
      · skip
        refine v_iload G (decAt dd_MD_does 95 rfl) rfl ?_
        refine v_if_ne G 267 (decAt dd_MD_does 96 rfl) (by decide) (fun c262 => ?_) (fun c262 => ?_)
        · skip
          exact absurd hz.2 c262
        · skip
          refine v_iconst G 3 (decAt dd_MD_does 97 rfl) (by decide) ?_
          exact v_iret G (decAt dd_MD_does 98 rfl) rfl ⟨rfl, rfl, (up2_up2 _ _ _ _ _), rfl, rfl, hr.2.2, rfl, rfl, fun i h1 h2 h3 => rfl⟩
      · skip
        refine v_iload_n G (decAt dd_MD_does 92 rfl) rfl ?_
        refine v_iconst G 4 (decAt dd_MD_does 93 rfl) (by decide) ?_
        refine v_icmp_ne G 267 (decAt dd_MD_does 94 rfl) (by decide) (fun c257 => ?_) (fun c257 => ?_)
        · skip
          exact absurd hz.1 (fun z => z.elim c252 c257)
        · skip
          refine v_iload G (decAt dd_MD_does 95 rfl) rfl ?_
          refine v_if_ne G 267 (decAt dd_MD_does 96 rfl) (by decide) (fun c262 => ?_) (fun c262 => ?_)
          · skip
            exact absurd hz.2 c262
          · skip
            refine v_iconst G 3 (decAt dd_MD_does 97 rfl) (by decide) ?_
            exact v_iret G (decAt dd_MD_does 98 rfl) rfl ⟨rfl, rfl, (up2_up2 _ _ _ _ _), rfl, rfl, hr.2.2, rfl, rfl, fun i h1 h2 h3 => rfl⟩
    · skip
      rw [show mdo 7 k (y :: x :: r) (A 31) (A 32) = some (0, opr k.toNatClampNeg x y :: r, A 31, A 32) from (if_pos hk).trans (congrArg some (if_neg hz))] at hm
      simp only [Option.some.injEq, Prod.mk.injEq] at hm
      obtain ⟨he1, he2, he3, he4⟩ := hm
      subst he1
      subst he2
      subst he3
      subst he4
      obtain ⟨j, hj, rfl, hcl⟩ := inR_nI hk
      rw [hcl]
      refine v_iload_n G (decAt dd_MD_does 0 rfl) rfl ?_
      refine v_tswIn G 239 (decAt dd_MD_does 1 rfl) (by decide) (by decide) rfl (by decide) ?_
      refine v_aload_n G (decAt dd_MD_does 83 rfl) rfl ?_
      refine v_callVik G (As := []) (decAt dd_MD_does 84 rfl) k_MD_83 (c_MD_pop l hE (h := r.length + 1) ⟨hn1, hn2, hn3, hn4, hn5, hn6, hn7⟩ hh (by omega)) rfl rfl rfl rfl (Nat.le_of_ble_eq_true rfl) (by decide) rfl rfl (by decide) ?_
      refine v_ri (y := y) hr.1 ?_
      refine v_istore_4 G (decAt dd_MD_does 85 rfl) (by decide) rfl ?_
      refine v_aload_n G (decAt dd_MD_does 86 rfl) rfl ?_
      refine v_callVik G (As := []) (decAt dd_MD_does 87 rfl) k_MD_83 (c_MD_pop l hE (h := r.length) ⟨hn1, hn2, hn3, hn4, hn5, hn6, hn7⟩ up2_self (by omega)) rfl rfl rfl rfl (Nat.le_of_ble_eq_true rfl) (by decide) rfl rfl (by decide) ?_
      refine v_ri (y := x) hr.2.1 ?_
      refine v_istore_3 G (decAt dd_MD_does 88 rfl) (by decide) rfl ?_
      refine v_iload_n G (decAt dd_MD_does 89 rfl) rfl ?_
      refine v_iconst G 3 (decAt dd_MD_does 90 rfl) (by decide) ?_
      refine v_icmp_eq G 260 (decAt dd_MD_does 91 rfl) (by decide) (fun c252 => ?_) (fun c252 => ?_)
      · skip
        refine v_iload G (decAt dd_MD_does 95 rfl) rfl ?_
        refine v_if_ne G 267 (decAt dd_MD_does 96 rfl) (by decide) (fun c262 => ?_) (fun c262 => ?_)
        · skip
          refine v_aload_n G (decAt dd_MD_does 99 rfl) rfl ?_
          refine v_iload_n G (decAt dd_MD_does 100 rfl) rfl ?_
          refine v_iload_n G (decAt dd_MD_does 101 rfl) rfl ?_
          refine v_iload G (decAt dd_MD_does 102 rfl) rfl ?_
          refine p_callSi G (XB_Sy G) (As := [.int (nI j), .int x, .int y]) (decAt dd_MD_does 103 rfl) k_MD_87 (c_MD_made l hE (k := j) (by omega) (fun q z => hz ⟨q.elim (fun a => Or.inl (by rw [a]; rfl)) (fun a => Or.inr (by rw [a]; rfl)), z⟩)) rfl rfl (Nat.le_of_ble_eq_true rfl) (by decide) rfl rfl (by decide) ?_
          refine v_callVvk G (As := [.int (opr j x y)]) (decAt dd_MD_does 104 rfl) k_MD_79 (c_MD_push l hE (h := r.length) ⟨hn1, hn2, hn3, hn4, hn5, hn6, hn7⟩ up2_self (by omega)) rfl rfl rfl rfl (Nat.le_of_ble_eq_true rfl) (by decide) rfl rfl (by decide) ?_
          refine v_iconst G 0 (decAt dd_MD_does 105 rfl) (by decide) ?_
          exact v_iret G (decAt dd_MD_does 106 rfl) rfl ⟨rfl, rfl, (by rw [up2_up2, up2_up2] <;> rfl), rfl, rfl, hr.2.2.push, rfl, rfl, fun i h1 h2 h3 => va_up_ne _ _ h1⟩
        · skip
          exact absurd ⟨by first | exact Or.inl c252 | exact Or.inr c257, c262⟩ hz
      · skip
        refine v_iload_n G (decAt dd_MD_does 92 rfl) rfl ?_
        refine v_iconst G 4 (decAt dd_MD_does 93 rfl) (by decide) ?_
        refine v_icmp_ne G 267 (decAt dd_MD_does 94 rfl) (by decide) (fun c257 => ?_) (fun c257 => ?_)
        · skip
          refine v_aload_n G (decAt dd_MD_does 99 rfl) rfl ?_
          refine v_iload_n G (decAt dd_MD_does 100 rfl) rfl ?_
          refine v_iload_n G (decAt dd_MD_does 101 rfl) rfl ?_
          refine v_iload G (decAt dd_MD_does 102 rfl) rfl ?_
          refine p_callSi G (XB_Sy G) (As := [.int (nI j), .int x, .int y]) (decAt dd_MD_does 103 rfl) k_MD_87 (c_MD_made l hE (k := j) (by omega) (fun q z => hz ⟨q.elim (fun a => Or.inl (by rw [a]; rfl)) (fun a => Or.inr (by rw [a]; rfl)), z⟩)) rfl rfl (Nat.le_of_ble_eq_true rfl) (by decide) rfl rfl (by decide) ?_
          refine v_callVvk G (As := [.int (opr j x y)]) (decAt dd_MD_does 104 rfl) k_MD_79 (c_MD_push l hE (h := r.length) ⟨hn1, hn2, hn3, hn4, hn5, hn6, hn7⟩ up2_self (by omega)) rfl rfl rfl rfl (Nat.le_of_ble_eq_true rfl) (by decide) rfl rfl (by decide) ?_
          refine v_iconst G 0 (decAt dd_MD_does 105 rfl) (by decide) ?_
          exact v_iret G (decAt dd_MD_does 106 rfl) rfl ⟨rfl, rfl, (by rw [up2_up2, up2_up2] <;> rfl), rfl, rfl, hr.2.2.push, rfl, rfl, fun i h1 h2 h3 => va_up_ne _ _ h1⟩
        · skip
          refine v_iload G (decAt dd_MD_does 95 rfl) rfl ?_
          refine v_if_ne G 267 (decAt dd_MD_does 96 rfl) (by decide) (fun c262 => ?_) (fun c262 => ?_)
          · skip
            refine v_aload_n G (decAt dd_MD_does 99 rfl) rfl ?_
            refine v_iload_n G (decAt dd_MD_does 100 rfl) rfl ?_
            refine v_iload_n G (decAt dd_MD_does 101 rfl) rfl ?_
            refine v_iload G (decAt dd_MD_does 102 rfl) rfl ?_
            refine p_callSi G (XB_Sy G) (As := [.int (nI j), .int x, .int y]) (decAt dd_MD_does 103 rfl) k_MD_87 (c_MD_made l hE (k := j) (by omega) (fun q z => hz ⟨q.elim (fun a => Or.inl (by rw [a]; rfl)) (fun a => Or.inr (by rw [a]; rfl)), z⟩)) rfl rfl (Nat.le_of_ble_eq_true rfl) (by decide) rfl rfl (by decide) ?_
            refine v_callVvk G (As := [.int (opr j x y)]) (decAt dd_MD_does 104 rfl) k_MD_79 (c_MD_push l hE (h := r.length) ⟨hn1, hn2, hn3, hn4, hn5, hn6, hn7⟩ up2_self (by omega)) rfl rfl rfl rfl (Nat.le_of_ble_eq_true rfl) (by decide) rfl rfl (by decide) ?_
            refine v_iconst G 0 (decAt dd_MD_does 105 rfl) (by decide) ?_
            exact v_iret G (decAt dd_MD_does 106 rfl) rfl ⟨rfl, rfl, (by rw [up2_up2, up2_up2] <;> rfl), rfl, rfl, hr.2.2.push, rfl, rfl, fun i h1 h2 h3 => va_up_ne _ _ h1⟩
          · skip
            exact absurd ⟨by first | exact Or.inl c252 | exact Or.inr c257, c262⟩ hz
  · skip
    obtain ⟨y, x, r, rfl⟩ : ∃ y x r, σ = y :: x :: r := by
      rcases σ with _ | ⟨y, _ | ⟨x, r⟩⟩
      · simp [mdo] at hm
      · simp [mdo] at hm
      · exact ⟨_, _, _, rfl⟩
    have hl0 : r.length + 2 ≤ 61 := hl
    have hk : inR k 6 = true := by
      by_cases q : inR k 6 = true
      · exact q
      · rw [show mdo 8 k (y :: x :: r) (A 31) (A 32) = none from if_neg q] at hm; cases hm
    rw [show mdo 8 k (y :: x :: r) (A 31) (A 32) = some (0, rI (rel k.toNatClampNeg x y) :: r, A 31, A 32) from if_pos hk] at hm
    simp only [Option.some.injEq, Prod.mk.injEq] at hm
    obtain ⟨he1, he2, he3, he4⟩ := hm
    subst he1
    subst he2
    subst he3
    subst he4
    obtain ⟨j, hj, rfl, hcl⟩ := inR_nI hk
    rw [hcl]
    refine v_iload_n G (decAt dd_MD_does 0 rfl) rfl ?_
    refine v_tswIn G 280 (decAt dd_MD_does 1 rfl) (by decide) (by decide) rfl (by decide) ?_
    refine v_aload_n G (decAt dd_MD_does 107 rfl) rfl ?_
    refine v_callVik G (As := []) (decAt dd_MD_does 108 rfl) k_MD_83 (c_MD_pop l hE (h := r.length + 1) ⟨hn1, hn2, hn3, hn4, hn5, hn6, hn7⟩ hh (by omega)) rfl rfl rfl rfl (Nat.le_of_ble_eq_true rfl) (by decide) rfl rfl (by decide) ?_
    refine v_ri (y := y) hr.1 ?_
    refine v_istore_4 G (decAt dd_MD_does 109 rfl) (by decide) rfl ?_
    refine v_aload_n G (decAt dd_MD_does 110 rfl) rfl ?_
    refine v_callVik G (As := []) (decAt dd_MD_does 111 rfl) k_MD_83 (c_MD_pop l hE (h := r.length) ⟨hn1, hn2, hn3, hn4, hn5, hn6, hn7⟩ up2_self (by omega)) rfl rfl rfl rfl (Nat.le_of_ble_eq_true rfl) (by decide) rfl rfl (by decide) ?_
    refine v_ri (y := x) hr.2.1 ?_
    refine v_istore_3 G (decAt dd_MD_does 112 rfl) (by decide) rfl ?_
    refine v_aload_n G (decAt dd_MD_does 113 rfl) rfl ?_
    refine v_iload_n G (decAt dd_MD_does 114 rfl) rfl ?_
    refine v_iload_n G (decAt dd_MD_does 115 rfl) rfl ?_
    refine v_iload G (decAt dd_MD_does 116 rfl) rfl ?_
    refine p_callSi G (XB_Sy G) (As := [.int (nI j), .int x, .int y]) (decAt dd_MD_does 117 rfl) k_MD_91 (c_MD_compares l hE (k := j) (by omega)) rfl rfl (Nat.le_of_ble_eq_true rfl) (by decide) rfl rfl (by decide) ?_
    refine v_if_eq G 306 (decAt dd_MD_does 118 rfl) (by decide) (fun c299 => ?_) (fun c299 => ?_)
    · skip
      refine v_iconst G 0 (decAt dd_MD_does 121 rfl) (by decide) ?_
      refine v_ri (y := rI (rel j x y)) (by rw [bI0] at c299; simp_all [rI]) ?_
      refine v_callVvk G (As := [.int (rI (rel j x y))]) (decAt dd_MD_does 122 rfl) k_MD_79 (c_MD_push l hE (h := r.length) ⟨hn1, hn2, hn3, hn4, hn5, hn6, hn7⟩ up2_self (by omega)) rfl rfl rfl rfl (Nat.le_of_ble_eq_true rfl) (by decide) rfl rfl (by decide) ?_
      refine v_iconst G 0 (decAt dd_MD_does 123 rfl) (by decide) ?_
      exact v_iret G (decAt dd_MD_does 124 rfl) rfl ⟨rfl, rfl, (by rw [up2_up2, up2_up2] <;> rfl), rfl, rfl, hr.2.2.push, rfl, rfl, fun i h1 h2 h3 => va_up_ne _ _ h1⟩
    · skip
      refine v_iconst G (-1) (decAt dd_MD_does 119 rfl) (by decide) ?_
      refine v_goto G 307 (decAt dd_MD_does 120 rfl) (by decide) ?_
      refine v_ri (y := rI (rel j x y)) (by rw [bI0] at c299; simp_all [rI]) ?_
      refine v_callVvk G (As := [.int (rI (rel j x y))]) (decAt dd_MD_does 122 rfl) k_MD_79 (c_MD_push l hE (h := r.length) ⟨hn1, hn2, hn3, hn4, hn5, hn6, hn7⟩ up2_self (by omega)) rfl rfl rfl rfl (Nat.le_of_ble_eq_true rfl) (by decide) rfl rfl (by decide) ?_
      refine v_iconst G 0 (decAt dd_MD_does 123 rfl) (by decide) ?_
      exact v_iret G (decAt dd_MD_does 124 rfl) rfl ⟨rfl, rfl, (by rw [up2_up2, up2_up2] <;> rfl), rfl, rfl, hr.2.2.push, rfl, rfl, fun i h1 h2 h3 => va_up_ne _ _ h1⟩
  · skip
    obtain ⟨y, x, r, rfl⟩ : ∃ y x r, σ = y :: x :: r := by
      rcases σ with _ | ⟨y, _ | ⟨x, r⟩⟩
      · simp [mdo] at hm
      · simp [mdo] at hm
      · exact ⟨_, _, _, rfl⟩
    have hl0 : r.length + 2 ≤ 61 := hl
    have hk : inR k 6 = true := by
      by_cases q : inR k 6 = true
      · exact q
      · rw [show mdo 9 k (y :: x :: r) (A 31) (A 32) = none from if_neg q] at hm; cases hm
    rw [show mdo 9 k (y :: x :: r) (A 31) (A 32) = some (0, rI (rel k.toNatClampNeg x y) :: y :: r, A 31, A 32) from if_pos hk] at hm
    simp only [Option.some.injEq, Prod.mk.injEq] at hm
    obtain ⟨he1, he2, he3, he4⟩ := hm
    subst he1
    subst he2
    subst he3
    subst he4
    obtain ⟨j, hj, rfl, hcl⟩ := inR_nI hk
    rw [hcl]
    refine v_iload_n G (decAt dd_MD_does 0 rfl) rfl ?_
    refine v_tswIn G 312 (decAt dd_MD_does 1 rfl) (by decide) (by decide) rfl (by decide) ?_
    refine v_aload_n G (decAt dd_MD_does 125 rfl) rfl ?_
    refine v_callVik G (As := []) (decAt dd_MD_does 126 rfl) k_MD_83 (c_MD_pop l hE (h := r.length + 1) ⟨hn1, hn2, hn3, hn4, hn5, hn6, hn7⟩ hh (by omega)) rfl rfl rfl rfl (Nat.le_of_ble_eq_true rfl) (by decide) rfl rfl (by decide) ?_
    refine v_ri (y := y) hr.1 ?_
    refine v_istore_4 G (decAt dd_MD_does 127 rfl) (by decide) rfl ?_
    refine v_aload_n G (decAt dd_MD_does 128 rfl) rfl ?_
    refine v_callVik G (As := []) (decAt dd_MD_does 129 rfl) k_MD_83 (c_MD_pop l hE (h := r.length) ⟨hn1, hn2, hn3, hn4, hn5, hn6, hn7⟩ up2_self (by omega)) rfl rfl rfl rfl (Nat.le_of_ble_eq_true rfl) (by decide) rfl rfl (by decide) ?_
    refine v_ri (y := x) hr.2.1 ?_
    refine v_istore_3 G (decAt dd_MD_does 130 rfl) (by decide) rfl ?_
    refine v_aload_n G (decAt dd_MD_does 131 rfl) rfl ?_
    refine v_iload G (decAt dd_MD_does 132 rfl) rfl ?_
    refine v_callVvk G (As := [.int y]) (decAt dd_MD_does 133 rfl) k_MD_79 (c_MD_push l hE (h := r.length) ⟨hn1, hn2, hn3, hn4, hn5, hn6, hn7⟩ up2_self (by omega)) rfl rfl rfl rfl (Nat.le_of_ble_eq_true rfl) (by decide) rfl rfl (by decide) ?_
    refine v_aload_n G (decAt dd_MD_does 134 rfl) rfl ?_
    refine v_iload_n G (decAt dd_MD_does 135 rfl) rfl ?_
    refine v_iload_n G (decAt dd_MD_does 136 rfl) rfl ?_
    refine v_iload G (decAt dd_MD_does 137 rfl) rfl ?_
    refine p_callSi G (XB_Sy G) (As := [.int (nI j), .int x, .int y]) (decAt dd_MD_does 138 rfl) k_MD_91 (c_MD_compares l hE (k := j) (by omega)) rfl rfl (Nat.le_of_ble_eq_true rfl) (by decide) rfl rfl (by decide) ?_
    refine v_if_eq G 344 (decAt dd_MD_does 139 rfl) (by decide) (fun c337 => ?_) (fun c337 => ?_)
    · skip
      refine v_iconst G 0 (decAt dd_MD_does 142 rfl) (by decide) ?_
      refine v_ri (y := rI (rel j x y)) (by rw [bI0] at c337; simp_all [rI]) ?_
      refine v_callVvk G (As := [.int (rI (rel j x y))]) (decAt dd_MD_does 143 rfl) k_MD_79 (c_MD_push l hE (h := r.length + 1) ⟨hn1, hn2, hn3, hn4, hn5, hn6, hn7⟩ up2_self (by omega)) rfl rfl rfl rfl (Nat.le_of_ble_eq_true rfl) (by decide) rfl rfl (by decide) ?_
      refine v_iconst G 0 (decAt dd_MD_does 144 rfl) (by decide) ?_
      exact v_iret G (decAt dd_MD_does 145 rfl) rfl ⟨rfl, rfl, (by rw [up2_up2, up2_up2, up2_up2] <;> rfl), rfl, rfl, hr.2.2.push.push, rfl, rfl, fun i h1 h2 h3 => (va_up_ne _ _ h1).trans (va_up_ne _ _ h1)⟩
    · skip
      refine v_iconst G (-1) (decAt dd_MD_does 140 rfl) (by decide) ?_
      refine v_goto G 345 (decAt dd_MD_does 141 rfl) (by decide) ?_
      refine v_ri (y := rI (rel j x y)) (by rw [bI0] at c337; simp_all [rI]) ?_
      refine v_callVvk G (As := [.int (rI (rel j x y))]) (decAt dd_MD_does 143 rfl) k_MD_79 (c_MD_push l hE (h := r.length + 1) ⟨hn1, hn2, hn3, hn4, hn5, hn6, hn7⟩ up2_self (by omega)) rfl rfl rfl rfl (Nat.le_of_ble_eq_true rfl) (by decide) rfl rfl (by decide) ?_
      refine v_iconst G 0 (decAt dd_MD_does 144 rfl) (by decide) ?_
      exact v_iret G (decAt dd_MD_does 145 rfl) rfl ⟨rfl, rfl, (by rw [up2_up2, up2_up2, up2_up2] <;> rfl), rfl, rfl, hr.2.2.push.push, rfl, rfl, fun i h1 h2 h3 => (va_up_ne _ _ h1).trans (va_up_ne _ _ h1)⟩
  · skip
    
    replace hm : (some (0, σ, A 31, A 32) : Option Env1) = some _ := hm
    simp only [Option.some.injEq, Prod.mk.injEq] at hm
    obtain ⟨he1, he2, he3, he4⟩ := hm
    subst he1
    subst he2
    subst he3
    subst he4
    refine v_iload_n G (decAt dd_MD_does 0 rfl) rfl ?_
    refine v_tswIn G 426 (decAt dd_MD_does 1 rfl) (by decide) (by decide) rfl (by decide) ?_
    refine v_iconst G 0 (decAt dd_MD_does 190 rfl) (by decide) ?_
    exact v_iret G (decAt dd_MD_does 191 rfl) rfl ⟨rfl, rfl, (up2_id hh).symm, rfl, rfl, hr, rfl, rfl, fun i h1 h2 h3 => rfl⟩
  · skip
    
    replace hm : (some (0, σ, A 31, A 32) : Option Env1) = some _ := hm
    simp only [Option.some.injEq, Prod.mk.injEq] at hm
    obtain ⟨he1, he2, he3, he4⟩ := hm
    subst he1
    subst he2
    subst he3
    subst he4
    refine v_iload_n G (decAt dd_MD_does 0 rfl) rfl ?_
    refine v_tswIn G 426 (decAt dd_MD_does 1 rfl) (by decide) (by decide) rfl (by decide) ?_
    refine v_iconst G 0 (decAt dd_MD_does 190 rfl) (by decide) ?_
    exact v_iret G (decAt dd_MD_does 191 rfl) rfl ⟨rfl, rfl, (up2_id hh).symm, rfl, rfl, hr, rfl, rfl, fun i h1 h2 h3 => rfl⟩
  · skip
    
    replace hm : (some (0, σ, A 31, A 32) : Option Env1) = some _ := hm
    simp only [Option.some.injEq, Prod.mk.injEq] at hm
    obtain ⟨he1, he2, he3, he4⟩ := hm
    subst he1
    subst he2
    subst he3
    subst he4
    refine v_iload_n G (decAt dd_MD_does 0 rfl) rfl ?_
    refine v_tswIn G 426 (decAt dd_MD_does 1 rfl) (by decide) (by decide) rfl (by decide) ?_
    refine v_iconst G 0 (decAt dd_MD_does 190 rfl) (by decide) ?_
    exact v_iret G (decAt dd_MD_does 191 rfl) rfl ⟨rfl, rfl, (up2_id hh).symm, rfl, rfl, hr, rfl, rfl, fun i h1 h2 h3 => rfl⟩
  · skip
    
    replace hm : (some (0, σ, A 31, A 32) : Option Env1) = some _ := hm
    simp only [Option.some.injEq, Prod.mk.injEq] at hm
    obtain ⟨he1, he2, he3, he4⟩ := hm
    subst he1
    subst he2
    subst he3
    subst he4
    refine v_iload_n G (decAt dd_MD_does 0 rfl) rfl ?_
    refine v_tswIn G 426 (decAt dd_MD_does 1 rfl) (by decide) (by decide) rfl (by decide) ?_
    refine v_iconst G 0 (decAt dd_MD_does 190 rfl) (by decide) ?_
    exact v_iret G (decAt dd_MD_does 191 rfl) rfl ⟨rfl, rfl, (up2_id hh).symm, rfl, rfl, hr, rfl, rfl, fun i h1 h2 h3 => rfl⟩
  · skip
    obtain ⟨v, r, rfl⟩ : ∃ v r, σ = v :: r := by
      rcases σ with _ | ⟨v, r⟩
      · simp [mdo] at hm
      · exact ⟨_, _, rfl⟩
    have hl0 : r.length + 1 ≤ 61 := hl
    replace hm : (some (0, r, A 31, A 32) : Option Env1) = some _ := hm
    simp only [Option.some.injEq, Prod.mk.injEq] at hm
    obtain ⟨he1, he2, he3, he4⟩ := hm
    subst he1
    subst he2
    subst he3
    subst he4
    refine v_iload_n G (decAt dd_MD_does 0 rfl) rfl ?_
    refine v_tswIn G 350 (decAt dd_MD_does 1 rfl) (by decide) (by decide) rfl (by decide) ?_
    refine v_aload_n G (decAt dd_MD_does 146 rfl) rfl ?_
    refine v_callVik G (As := []) (decAt dd_MD_does 147 rfl) k_MD_83 (c_MD_pop l hE (h := r.length) ⟨hn1, hn2, hn3, hn4, hn5, hn6, hn7⟩ hh (by omega)) rfl rfl rfl rfl (Nat.le_of_ble_eq_true rfl) (by decide) rfl rfl (by decide) ?_
    refine v_ri (y := v) hr.1 ?_
    refine v_pop G (decAt dd_MD_does 148 rfl) rfl ?_
    refine v_iconst G 0 (decAt dd_MD_does 149 rfl) (by decide) ?_
    exact v_iret G (decAt dd_MD_does 150 rfl) rfl ⟨rfl, rfl, rfl, rfl, rfl, hr.2, rfl, rfl, fun i h1 h2 h3 => rfl⟩
  · skip
    
    replace hm : (some (0, σ, A 31, A 32) : Option Env1) = some _ := hm
    simp only [Option.some.injEq, Prod.mk.injEq] at hm
    obtain ⟨he1, he2, he3, he4⟩ := hm
    subst he1
    subst he2
    subst he3
    subst he4
    refine v_iload_n G (decAt dd_MD_does 0 rfl) rfl ?_
    refine v_tswIn G 426 (decAt dd_MD_does 1 rfl) (by decide) (by decide) rfl (by decide) ?_
    refine v_iconst G 0 (decAt dd_MD_does 190 rfl) (by decide) ?_
    exact v_iret G (decAt dd_MD_does 191 rfl) rfl ⟨rfl, rfl, (up2_id hh).symm, rfl, rfl, hr, rfl, rfl, fun i h1 h2 h3 => rfl⟩
  · skip
    
    replace hm : (some (0, σ, A 31, A 32) : Option Env1) = some _ := hm
    simp only [Option.some.injEq, Prod.mk.injEq] at hm
    obtain ⟨he1, he2, he3, he4⟩ := hm
    subst he1
    subst he2
    subst he3
    subst he4
    refine v_iload_n G (decAt dd_MD_does 0 rfl) rfl ?_
    refine v_tswIn G 426 (decAt dd_MD_does 1 rfl) (by decide) (by decide) rfl (by decide) ?_
    refine v_iconst G 0 (decAt dd_MD_does 190 rfl) (by decide) ?_
    exact v_iret G (decAt dd_MD_does 191 rfl) rfl ⟨rfl, rfl, (up2_id hh).symm, rfl, rfl, hr, rfl, rfl, fun i h1 h2 h3 => rfl⟩
  · skip
    
    replace hm : (some (0, σ, A 31, A 32) : Option Env1) = some _ := hm
    simp only [Option.some.injEq, Prod.mk.injEq] at hm
    obtain ⟨he1, he2, he3, he4⟩ := hm
    subst he1
    subst he2
    subst he3
    subst he4
    refine v_iload_n G (decAt dd_MD_does 0 rfl) rfl ?_
    refine v_tswIn G 426 (decAt dd_MD_does 1 rfl) (by decide) (by decide) rfl (by decide) ?_
    refine v_iconst G 0 (decAt dd_MD_does 190 rfl) (by decide) ?_
    exact v_iret G (decAt dd_MD_does 191 rfl) rfl ⟨rfl, rfl, (up2_id hh).symm, rfl, rfl, hr, rfl, rfl, fun i h1 h2 h3 => rfl⟩
  · skip
    
    replace hm : (some (0, σ, A 31, A 32) : Option Env1) = some _ := hm
    simp only [Option.some.injEq, Prod.mk.injEq] at hm
    obtain ⟨he1, he2, he3, he4⟩ := hm
    subst he1
    subst he2
    subst he3
    subst he4
    refine v_iload_n G (decAt dd_MD_does 0 rfl) rfl ?_
    refine v_tswIn G 426 (decAt dd_MD_does 1 rfl) (by decide) (by decide) rfl (by decide) ?_
    refine v_iconst G 0 (decAt dd_MD_does 190 rfl) (by decide) ?_
    exact v_iret G (decAt dd_MD_does 191 rfl) rfl ⟨rfl, rfl, (up2_id hh).symm, rfl, rfl, hr, rfl, rfl, fun i h1 h2 h3 => rfl⟩
  · skip
    obtain ⟨y, x, r, rfl⟩ : ∃ y x r, σ = y :: x :: r := by
      rcases σ with _ | ⟨y, _ | ⟨x, r⟩⟩
      · simp [mdo] at hm
      · simp [mdo] at hm
      · exact ⟨_, _, _, rfl⟩
    have hl0 : r.length + 2 ≤ 61 := hl
    by_cases hw : isW (wAt x y) = true
    · skip
      rw [show mdo 19 k (y :: x :: r) (A 31) (A 32) = some (0, getb (A 32 (wAt x y).toNat) y :: r, A 31, A 32) from congrArg some (if_pos hw)] at hm
      simp only [Option.some.injEq, Prod.mk.injEq] at hm
      obtain ⟨he1, he2, he3, he4⟩ := hm
      subst he1
      subst he2
      subst he3
      subst he4
      have hw2 := of_decide_eq_true hw
      refine v_iload_n G (decAt dd_MD_does 0 rfl) rfl ?_
      refine v_tswIn G 357 (decAt dd_MD_does 1 rfl) (by decide) (by decide) rfl (by decide) ?_
      refine v_aload_n G (decAt dd_MD_does 151 rfl) rfl ?_
      refine v_callVik G (As := []) (decAt dd_MD_does 152 rfl) k_MD_83 (c_MD_pop l hE (h := r.length + 1) ⟨hn1, hn2, hn3, hn4, hn5, hn6, hn7⟩ hh (by omega)) rfl rfl rfl rfl (Nat.le_of_ble_eq_true rfl) (by decide) rfl rfl (by decide) ?_
      refine v_ri (y := y) hr.1 ?_
      refine v_istore_4 G (decAt dd_MD_does 153 rfl) (by decide) rfl ?_
      refine v_aload_n G (decAt dd_MD_does 154 rfl) rfl ?_
      refine v_callVik G (As := []) (decAt dd_MD_does 155 rfl) k_MD_83 (c_MD_pop l hE (h := r.length) ⟨hn1, hn2, hn3, hn4, hn5, hn6, hn7⟩ up2_self (by omega)) rfl rfl rfl rfl (Nat.le_of_ble_eq_true rfl) (by decide) rfl rfl (by decide) ?_
      refine v_ri (y := x) hr.2.1 ?_
      refine v_istore_3 G (decAt dd_MD_does 156 rfl) (by decide) rfl ?_
      refine v_iload_n G (decAt dd_MD_does 157 rfl) rfl ?_
      refine v_iload G (decAt dd_MD_does 158 rfl) rfl ?_
      refine p_callSi G (XB_Sy G) (As := [.int x, .int y]) (decAt dd_MD_does 159 rfl) k_MD_94 (c_MD_wordOf l hE) rfl rfl (Nat.le_of_ble_eq_true rfl) (by decide) rfl rfl (by decide) ?_
      refine v_ri (y := nI (wAt x y).toNat) (if_pos hw) ?_
      refine v_istore_5 G (decAt dd_MD_does 160 rfl) (by decide) rfl ?_
      refine v_aload_n G (decAt dd_MD_does 161 rfl) rfl ?_
      refine v_iload G (decAt dd_MD_does 162 rfl) rfl ?_
      refine v_iconst G (-1) (decAt dd_MD_does 163 rfl) (by decide) ?_
      refine v_icmp_ne G 387 (decAt dd_MD_does 164 rfl) (by decide) (fun c380 => ?_) (fun c380 => ?_)
      · skip
        refine v_aload_n G (decAt dd_MD_does 167 rfl) rfl ?_
        refine v_geta G (decAt dd_MD_does 168 rfl) f_MD_19 ?_
        refine v_iload G (decAt dd_MD_does 169 rfl) rfl ?_
        refine v_iald G 32 (wAt x y).toNat (decAt dd_MD_does 170 rfl) (by decide) rfl rfl (by omega) ?_
        refine v_bipush G 8 (decAt dd_MD_does 171 rfl) (by decide) ?_
        refine v_iload G (decAt dd_MD_does 172 rfl) rfl ?_
        refine v_iconst G 3 (decAt dd_MD_does 173 rfl) (by decide) ?_
        refine v_iand G (decAt dd_MD_does 174 rfl) ?_
        refine v_imul G (decAt dd_MD_does 175 rfl) ?_
        refine v_ishr G (decAt dd_MD_does 176 rfl) ?_
        refine v_sipush G 255 (decAt dd_MD_does 177 rfl) (by decide) ?_
        refine v_iand G (decAt dd_MD_does 178 rfl) ?_
        refine v_ri (y := getb (A 32 (wAt x y).toNat) y) rfl ?_
        refine v_callVvk G (As := [.int (getb (A 32 (wAt x y).toNat) y)]) (decAt dd_MD_does 179 rfl) k_MD_79 (c_MD_push l hE (h := r.length) ⟨hn1, hn2, hn3, hn4, hn5, hn6, hn7⟩ up2_self (by omega)) rfl rfl rfl rfl (Nat.le_of_ble_eq_true rfl) (by decide) rfl rfl (by decide) ?_
        refine v_iload G (decAt dd_MD_does 180 rfl) rfl ?_
        refine v_iconst G (-1) (decAt dd_MD_does 181 rfl) (by decide) ?_
        refine v_icmp_ne G 419 (decAt dd_MD_does 182 rfl) (by decide) (fun c412 => ?_) (fun c412 => ?_)
        · skip
          refine v_iconst G 0 (decAt dd_MD_does 185 rfl) (by decide) ?_
          exact v_iret G (decAt dd_MD_does 186 rfl) rfl ⟨rfl, rfl, (by rw [up2_up2, up2_up2] <;> rfl), rfl, rfl, hr.2.2.push, rfl, rfl, fun i h1 h2 h3 => va_up_ne _ _ h1⟩
        · skip
          exact absurd (congrArg Int32.toInt c412) (by rw [nI_toInt (by omega)]; show ¬ _ = (-1 : Int); omega)
      · skip
        exact absurd (congrArg Int32.toInt c380) (by rw [nI_toInt (by omega)]; show ¬ _ = (-1 : Int); omega)
    · skip
      rw [show mdo 19 k (y :: x :: r) (A 31) (A 32) = some (2, 0 :: r, A 31, A 32) from congrArg some (if_neg hw)] at hm
      simp only [Option.some.injEq, Prod.mk.injEq] at hm
      obtain ⟨he1, he2, he3, he4⟩ := hm
      subst he1
      subst he2
      subst he3
      subst he4
      refine v_iload_n G (decAt dd_MD_does 0 rfl) rfl ?_
      refine v_tswIn G 357 (decAt dd_MD_does 1 rfl) (by decide) (by decide) rfl (by decide) ?_
      refine v_aload_n G (decAt dd_MD_does 151 rfl) rfl ?_
      refine v_callVik G (As := []) (decAt dd_MD_does 152 rfl) k_MD_83 (c_MD_pop l hE (h := r.length + 1) ⟨hn1, hn2, hn3, hn4, hn5, hn6, hn7⟩ hh (by omega)) rfl rfl rfl rfl (Nat.le_of_ble_eq_true rfl) (by decide) rfl rfl (by decide) ?_
      refine v_ri (y := y) hr.1 ?_
      refine v_istore_4 G (decAt dd_MD_does 153 rfl) (by decide) rfl ?_
      refine v_aload_n G (decAt dd_MD_does 154 rfl) rfl ?_
      refine v_callVik G (As := []) (decAt dd_MD_does 155 rfl) k_MD_83 (c_MD_pop l hE (h := r.length) ⟨hn1, hn2, hn3, hn4, hn5, hn6, hn7⟩ up2_self (by omega)) rfl rfl rfl rfl (Nat.le_of_ble_eq_true rfl) (by decide) rfl rfl (by decide) ?_
      refine v_ri (y := x) hr.2.1 ?_
      refine v_istore_3 G (decAt dd_MD_does 156 rfl) (by decide) rfl ?_
      refine v_iload_n G (decAt dd_MD_does 157 rfl) rfl ?_
      refine v_iload G (decAt dd_MD_does 158 rfl) rfl ?_
      refine p_callSi G (XB_Sy G) (As := [.int x, .int y]) (decAt dd_MD_does 159 rfl) k_MD_94 (c_MD_wordOf l hE) rfl rfl (Nat.le_of_ble_eq_true rfl) (by decide) rfl rfl (by decide) ?_
      refine v_ri (y := -1) (if_neg hw) ?_
      refine v_istore_5 G (decAt dd_MD_does 160 rfl) (by decide) rfl ?_
      refine v_aload_n G (decAt dd_MD_does 161 rfl) rfl ?_
      refine v_iload G (decAt dd_MD_does 162 rfl) rfl ?_
      refine v_iconst G (-1) (decAt dd_MD_does 163 rfl) (by decide) ?_
      refine v_icmp_ne G 387 (decAt dd_MD_does 164 rfl) (by decide) (fun c380 => ?_) (fun c380 => ?_)
      · skip
        exact absurd rfl c380
      · skip
        refine v_iconst G 0 (decAt dd_MD_does 165 rfl) (by decide) ?_
        refine v_goto G 406 (decAt dd_MD_does 166 rfl) (by decide) ?_
        refine v_callVvk G (As := [.int 0]) (decAt dd_MD_does 179 rfl) k_MD_79 (c_MD_push l hE (h := r.length) ⟨hn1, hn2, hn3, hn4, hn5, hn6, hn7⟩ up2_self (by omega)) rfl rfl rfl rfl (Nat.le_of_ble_eq_true rfl) (by decide) rfl rfl (by decide) ?_
        refine v_iload G (decAt dd_MD_does 180 rfl) rfl ?_
        refine v_iconst G (-1) (decAt dd_MD_does 181 rfl) (by decide) ?_
        refine v_icmp_ne G 419 (decAt dd_MD_does 182 rfl) (by decide) (fun c412 => ?_) (fun c412 => ?_)
        · skip
          exact absurd rfl c412
        · skip
          refine v_iconst G 2 (decAt dd_MD_does 183 rfl) (by decide) ?_
          refine v_goto G 420 (decAt dd_MD_does 184 rfl) (by decide) ?_
          exact v_iret G (decAt dd_MD_does 186 rfl) rfl ⟨rfl, rfl, (by rw [up2_up2, up2_up2] <;> rfl), rfl, rfl, hr.2.2.push, rfl, rfl, fun i h1 h2 h3 => va_up_ne _ _ h1⟩
  · skip
    obtain ⟨y, x, v, r, rfl⟩ : ∃ y x v r, σ = y :: x :: v :: r := by
      rcases σ with _ | ⟨y, _ | ⟨x, _ | ⟨v, r⟩⟩⟩
      · simp [mdo] at hm
      · simp [mdo] at hm
      · simp [mdo] at hm
      · exact ⟨_, _, _, _, rfl⟩
    have hl0 : r.length + 3 ≤ 61 := hl
    refine v_iload_n G (decAt dd_MD_does 0 rfl) rfl ?_
    refine v_tswIn G 421 (decAt dd_MD_does 1 rfl) (by decide) (by decide) rfl (by decide) ?_
    refine v_aload_n G (decAt dd_MD_does 187 rfl) rfl ?_
    refine v_callVi0 (P := fun v ρ' g' A' n' tx' => v = nI ev ∧ MdQ σ' loc' wrd' ρ g A n tx ρ' g' A' n' tx') G (As := []) (rm := ({ frames := 1, cells := 0, slots := 0, locals := 23 } : Room)) (decAt dd_MD_does 188 rfl) k_MD_97 ?_ rfl rfl rfl rfl (Nat.le_of_ble_eq_true rfl) (by decide) rfl rfl (by decide) (fun v1 ρ1 g1 A1 n1 tx1 hv => ?_)
    · have M := c_MD_sets l hE (ρ := ρ) (g := g) (A := A) (tx := tx) (n := n) ⟨hn1, hn2, hn3, hn4, hn5, hn6, hn7⟩ hh hl0 hr
      refine CW.mono M fun rr ρ' g' A' n' tx' h => ?_
      obtain ⟨e1, s1, l1, w1, h1, h2, h3⟩ := h
      have h1 : mdo 20 k (y :: x :: v :: r) (A 31) (A 32) = some (e1, s1, l1, w1) := h1
      rw [hm] at h1
      cases h1
      exact ⟨_, h2, rfl, h3⟩
    · obtain ⟨rfl, hq⟩ := hv
      exact v_iret G (decAt dd_MD_does 189 rfl) rfl ⟨rfl, hq⟩
