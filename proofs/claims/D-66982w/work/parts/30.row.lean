/-! Row: bytes of a text; Generator.line -/
def TxI (f : Nat → Int32) (t : List Int32) : Prop := ∀ (i : Nat) v, t[i]? = some v → f i = v
theorem TxI.push {f : Nat → Int32} {t : List Int32} {v : Int32} (h : TxI f t) : TxI (va_up f t.length v) (t ++ [v]) := by
  intro i w hi
  by_cases e : i < t.length
  · rw [List.getElem?_append_left e] at hi
    rw [va_up_ne _ _ (by omega)]
    exact h i w hi
  · rw [List.getElem?_append_right (by omega)] at hi
    have := (List.getElem?_eq_some_iff.mp hi).1
    simp at this
    have e2 : i = t.length := by omega
    subst e2
    simp at hi
    rw [va_up_self, hi]
def TxP (t : List Int32) (ρ : Nat → Nat) (g A : Nat → Nat → Int32) (n : Nat → Nat) (tx : Value) (ρ' : Nat → Nat) (g' A' : Nat → Nat → Int32) (n' : Nat → Nat) (tx' : Value) : Prop := ρ' = ρ ∧ g' = up2 g 4 1 (nI t.length) ∧ (∃ f', A' = va_up A 25 f' ∧ TxI f' t) ∧ n' = n ∧ tx' = tx
theorem va_up_up {α : Type} (f : Nat → α) (i : Nat) (x y : α) : va_up (va_up f i x) i y = va_up f i y := by
  funext j
  by_cases h : j = i
  · subst h; rw [va_up_self, va_up_self]
  · rw [va_up_ne _ _ h, va_up_ne _ _ h, va_up_ne _ _ h]
theorem take_push {B : List Int32} {j : Nat} (h : j < B.length) : B.take j ++ [B.getD j 0] = B.take (j + 1) := by
  rw [List.take_succ, List.getElem?_eq_getElem h, List.getD_eq_getElem?_getD, List.getElem?_eq_getElem h]
  rfl
-- decimal numbers
def lgt : Nat → Nat → Nat
  | 0, _ => 0
  | f + 1, m => if m < 10 then 0 else lgt f (m / 10) + 1
def dgF (m : Nat) : Nat → List Int32
  | 0 => [nI (48 + m % 10)]
  | k + 1 => nI (48 + m / 10 ^ (k + 1) % 10) :: dgF m k
def dec (v : Int32) : List Int32 := (if v < 0 then [45] else []) ++ dgF v.toInt.natAbs (lgt 10 v.toInt.natAbs)
theorem dgF_len (m : Nat) : ∀ k, (dgF m k).length = k + 1
  | 0 => rfl
  | k + 1 => by rw [dgF, List.length_cons, dgF_len m k]
theorem lgt_le : ∀ f m, m < 10 ^ f → lgt f m ≤ f - 1
  | 0, m, _ => Nat.le_refl _
  | f + 1, m, h => by
    rw [lgt]
    split
    · omega
    · next hm =>
      rcases Nat.eq_zero_or_pos f with z | z
      · subst z; omega
      · have := lgt_le f (m / 10) (by rw [Nat.pow_succ] at h; exact Nat.div_lt_of_lt_mul (by rw [Nat.mul_comm]; exact h))
        omega
theorem dec_len (v : Int32) : (dec v).length ≤ 11 := by
  have h := lgt_le 10 v.toInt.natAbs (by have := v.toInt_lt; have := v.le_toInt; omega)
  unfold dec
  rw [List.length_append, dgF_len]
  split <;> simp <;> omega
theorem i32_sg (v : Int32) : (¬ v < 0 ∧ v.toInt = ((v.toInt.natAbs : Nat) : Int)) ∨ (v < 0 ∧ v.toInt = -((v.toInt.natAbs : Nat) : Int)) := by
  by_cases h : v < 0
  · right
    have := Int32.lt_iff_toInt_lt.mp h
    have : v.toInt < 0 := this
    exact ⟨h, by omega⟩
  · left
    have := Int32.not_lt.mp h
    have := Int32.le_iff_toInt_le.mp this
    have : 0 ≤ v.toInt := this
    exact ⟨h, by omega⟩
theorem nI_nm1 {u : Nat} (hu : u < 2147483648) : nI u ≠ -1 := nI_m1 hu
theorem i32_divP {x : Int32} {m u : Nat} (hu : u < 2147483648) (h : x.toInt = (m : Int)) : (x / nI u).toInt = ((m / u : Nat) : Int) := by
  rw [Int32.toInt_div_of_ne_right _ _ (nI_nm1 hu), h, nI_toInt hu]
  rfl
theorem i32_divN {x : Int32} {m u : Nat} (hu : u < 2147483648) (h : x.toInt = -(m : Int)) : (x / nI u).toInt = -((m / u : Nat) : Int) := by
  rw [Int32.toInt_div_of_ne_right _ _ (nI_nm1 hu), h, nI_toInt hu, Int.neg_tdiv]
  rfl
theorem i32_eq0 {x : Int32} {m : Nat} (h : x.toInt = (m : Int) ∨ x.toInt = -(m : Int)) : x = 0 ↔ m = 0 := by
  constructor
  · intro z
    subst z
    have : (0 : Int32).toInt = 0 := rfl
    omega
  · intro z
    apply Int32.toInt_inj.mp
    show _ = (0 : Int)
    omega
theorem i32_div {x : Int32} {m u : Nat} (hu : u < 2147483648) (h : x.toInt = (m : Int) ∨ x.toInt = -(m : Int)) : (x / nI u).toInt = ((m / u : Nat) : Int) ∨ (x / nI u).toInt = -((m / u : Nat) : Int) := h.imp (i32_divP hu) (i32_divN hu)
theorem i32_digit {x : Int32} {m : Nat} (h : x.toInt = (m : Int) ∨ x.toInt = -(m : Int)) : (48 : Int32) + absI (x - x / 10 * 10) = nI (48 + m % 10) := by
  have hx := x.toInt_lt
  have hx2 := x.le_toInt
  have hd : (x / 10).toInt = ((m / 10 : Nat) : Int) ∨ (x / 10).toInt = -((m / 10 : Nat) : Int) := i32_div (u := 10) (by omega) h
  have hdd : (x.toInt = (m : Int) ∧ (x / 10).toInt = ((m / 10 : Nat) : Int)) ∨ (x.toInt = -(m : Int) ∧ (x / 10).toInt = -((m / 10 : Nat) : Int)) := h.imp (fun z => ⟨z, i32_divP (u := 10) (by omega) z⟩) (fun z => ⟨z, i32_divN (u := 10) (by omega) z⟩)
  have hm : m ≤ 2147483648 := by omega
  have e1 : (x / 10 * 10).toInt = (x / 10).toInt * 10 := by
    rw [Int32.toInt_mul]
    exact Int.bmod_eq_of_le (by show _ ≤ (x / 10).toInt * 10; omega) (by show (x / 10).toInt * 10 < _; omega)
  have e2 : (x - x / 10 * 10).toInt = x.toInt - (x / 10).toInt * 10 := by
    rw [Int32.toInt_sub, e1]
    exact Int.bmod_eq_of_le (by omega) (by omega)
  have e3 : (x - x / 10 * 10).toInt = ((m % 10 : Nat) : Int) ∨ (x - x / 10 * 10).toInt = -((m % 10 : Nat) : Int) := by
    rw [e2]; omega
  have key : ∀ y : Int32, (y.toInt = ((m % 10 : Nat) : Int) ∨ y.toInt = -((m % 10 : Nat) : Int)) → absI y = nI (m % 10) := by
    intro y hy
    have hm10 : m % 10 < 10 := Nat.mod_lt _ (by omega)
    unfold absI
    by_cases hneg : y < 0
    · rw [if_pos hneg]
      have hn : y.toInt < 0 := Int32.lt_iff_toInt_lt.mp hneg
      apply Int32.toInt_inj.mp
      rw [Int32.toInt_neg, nI_toInt (by omega), Int.bmod_eq_of_le (by omega) (by omega)]
      omega
    · rw [if_neg hneg]
      have hn : 0 ≤ y.toInt := Int32.le_iff_toInt_le.mp (Int32.not_lt.mp hneg)
      apply Int32.toInt_inj.mp
      rw [nI_toInt (by omega)]
      omega
  rw [key _ e3]
  exact nI_add 48 (m % 10)
theorem dig_b : ∀ k, k < 10 → (nI (48 + k)).toInt8.toInt32 = nI (48 + k) := by decide +kernel
theorem p10_mul : ∀ k, k < 9 → nI (10 ^ k) * 10 = nI (10 ^ (k + 1)) := by decide +kernel
theorem p10_div : ∀ k, k < 9 → nI (10 ^ (k + 1)) / 10 = nI (10 ^ k) := by decide +kernel
theorem p10_lt : ∀ k, k < 10 → 0 < 10 ^ k ∧ 10 ^ k < 2147483648 := by decide +kernel

set_option maxHeartbeats 4000000 in
theorem c_RW_one (l : Launch) {E : Bs} (hE : Hb E) {ρ : Nat → Nat} {g A : Nat → Nat → Int32} {n : Nat → Nat} {tx : Value} {t : List Int32} {v : Int32} (hv : v.toInt8.toInt32 = v) (hl : t.length < 4096) (hm : g 4 1 = nI t.length) (hn : n 25 = 4096) (hT : TxI (A 25) t) : CW l E DC AC y_RW_one b_RW_one 3 none ({ frames := 0, cells := 0, slots := 0, locals := 0 } : Room) [.ref (E.o 4), .int v] ρ g A n tx (fun r ρ' g' A' n' tx' => r = none ∧ TxP (t ++ [v]) ρ g A n tx ρ' g' A' n' tx') := by
  refine CW.start [some (.ref (E.o 4)), some (.int v), none] hE (by decide) (Nat.le_of_ble_eq_true rfl) rfl ?_
  intro p e s m args below meth c G
  refine v_aload_n G (decAt dd_RW_one 0 rfl) rfl ?_
  refine v_geti G (decAt dd_RW_one 1 rfl) f_RW_13 ?_
  refine v_ri (y := (nI t.length)) hm ?_
  refine v_aload_n G (decAt dd_RW_one 2 rfl) rfl ?_
  refine v_geta G (decAt dd_RW_one 3 rfl) f_RW_7 ?_
  refine v_alen G 25 (decAt dd_RW_one 4 rfl) (by decide) ?_
  refine v_ri (y := (nI 4096)) (by rw [hn]) ?_
  refine v_icmp_ne G 43 (decAt dd_RW_one 5 rfl) (by decide) (fun c9 => ?_) (fun c9 => ?_)
  · skip
    refine v_aload_n G (decAt dd_RW_one 24 rfl) rfl ?_
    refine v_geta G (decAt dd_RW_one 25 rfl) f_RW_7 ?_
    refine v_aload_n G (decAt dd_RW_one 26 rfl) rfl ?_
    refine v_geti G (decAt dd_RW_one 27 rfl) f_RW_13 ?_
    refine v_ri (y := (nI t.length)) hm ?_
    refine v_iload_n G (decAt dd_RW_one 28 rfl) rfl ?_
    refine v_i2b G (decAt dd_RW_one 29 rfl) ?_
    refine v_ri (y := v) hv ?_
    refine v_bast G 25 t.length (decAt dd_RW_one 30 rfl) (by decide) rfl rfl (by omega) (congrArg Value.int hv) ?_
    refine v_aload_n G (decAt dd_RW_one 31 rfl) rfl ?_
    refine v_dup G (decAt dd_RW_one 32 rfl) rfl ?_
    refine v_geti G (decAt dd_RW_one 33 rfl) f_RW_13 ?_
    refine v_ri (y := (nI t.length)) hm ?_
    refine v_iconst G 1 (decAt dd_RW_one 34 rfl) (by decide) ?_
    refine v_iadd G (decAt dd_RW_one 35 rfl) ?_
    refine v_ri (y := (nI (t.length + 1))) (nI_1 _) ?_
    refine v_puti G (decAt dd_RW_one 36 rfl) f_RW_13 rfl rfl rfl ?_
    exact v_vret G (decAt dd_RW_one 37 rfl) rfl ⟨rfl, rfl, by rw [List.length_append]; rfl, ⟨_, rfl, hT.push⟩, rfl, rfl⟩
  · skip
    exact absurd c9 (fun z => by have := (nI_eq (a := t.length) (b := 4096) (by omega) (by omega)).mp z; omega)
set_option maxHeartbeats 4000000 in
theorem c_RW_letters (l : Launch) {E : Bs} (hE : Hb E) {ρ : Nat → Nat} {g A : Nat → Nat → Int32} {n : Nat → Nat} {tx : Value} {t : List Int32} {i : Nat} (hi : i < 17) (hl : t.length + sle i ≤ 4096) (hm : g 4 1 = nI t.length) (hn : n 25 = 4096) (hT : TxI (A 25) t) : CW l E DC AC y_RW_letters b_RW_letters 3 none ({ frames := 4, cells := 0, slots := 0, locals := 85 } : Room) [.ref (E.o 4), .ref (E.st (10 + i))] ρ g A n tx (fun r ρ' g' A' n' tx' => r = none ∧ TxP (t ++ sbyt.getD i []) ρ g A n tx ρ' g' A' n' tx') := by
  refine CW.start [some (.ref (E.o 4)), some (.ref (E.st (10 + i))), none] hE (by decide) (Nat.le_of_ble_eq_true rfl) rfl ?_
  intro p e s m args below meth c G
  have J : ∀ (d j : Nat) (f : Nat → Int32) (tt : List Int32), j + d = sle i → tt = t ++ (sbyt.getD i []).take j → TxI f tt → V p l e ({ frames := 4, cells := 0, slots := 0, locals := 85 } : Room) s m args below meth c 3 (Sy E DC AC s.heap ρ (up2 g 4 1 (nI tt.length)) (va_up A 25 f) n tx) 0 0 (MQ below (QW E DC AC (fun r ρ' g' A' n' tx' => r = none ∧ TxP (t ++ sbyt.getD i []) ρ g A n tx ρ' g' A' n' tx')) args s 0 0 E.F) 2 [some (.ref (E.o 4)), some (.ref (E.st (10 + i))), some (.int (nI j))] [] := by
    have h8 := sle_ok i hi
    have hle := sle_len i hi
    intro d
    induction d with
    | zero =>
      intro j f tt hj htt hf
      refine v_iload_n G (decAt dd_RW_letters 2 rfl) rfl ?_
      refine v_aload_n G (decAt dd_RW_letters 3 rfl) rfl ?_
      refine p_callVi G (XB_Sy G) (As := []) (decAt dd_RW_letters 4 rfl) k_RW_23 (c_ST_length l hE hi) (q_recv G XS_Sy hi) rfl rfl (Nat.le_of_ble_eq_true rfl) (by decide) rfl rfl (by decide) ?_
      refine v_icmp_ge G 25 (decAt dd_RW_letters 5 rfl) (by decide) (fun c7 => ?_) (fun c7 => ?_)
      · skip
        have e : tt = t ++ sbyt.getD i [] := by rw [htt, List.take_of_length_le (by omega)]
        subst e
        exact v_vret G (decAt dd_RW_letters 13 rfl) rfl ⟨rfl, rfl, rfl, ⟨f, rfl, hf⟩, rfl, rfl⟩
      · skip
        exact absurd (nI_le (by omega) (by omega)) c7
    | succ d ih =>
      intro j f tt hj htt hf
      have htl : tt.length = t.length + j := by rw [htt, List.length_append, List.length_take]; omega
      obtain ⟨hb1, hb2, hb3⟩ := sby_ok i hi j (by omega)
      refine v_iload_n G (decAt dd_RW_letters 2 rfl) rfl ?_
      refine v_aload_n G (decAt dd_RW_letters 3 rfl) rfl ?_
      refine p_callVi G (XB_Sy G) (As := []) (decAt dd_RW_letters 4 rfl) k_RW_23 (c_ST_length l hE hi) (q_recv G XS_Sy hi) rfl rfl (Nat.le_of_ble_eq_true rfl) (by decide) rfl rfl (by decide) ?_
      refine v_icmp_ge G 25 (decAt dd_RW_letters 5 rfl) (by decide) (fun c7 => ?_) (fun c7 => ?_)
      · skip
        exact absurd c7 (nI_ge (by omega) (by omega))
      · skip
        refine v_aload_n G (decAt dd_RW_letters 6 rfl) rfl ?_
        refine v_aload_n G (decAt dd_RW_letters 7 rfl) rfl ?_
        refine v_iload_n G (decAt dd_RW_letters 8 rfl) rfl ?_
        refine p_callVi G (XB_Sy G) (As := [.int (nI j)]) (decAt dd_RW_letters 9 rfl) k_RW_29 (c_ST_charAt l hE hi (by omega)) (q_recv G XS_Sy hi) rfl rfl (Nat.le_of_ble_eq_true rfl) (by decide) rfl rfl (by decide) ?_
        refine v_callVv0 G (As := [.int (sby i j)]) (decAt dd_RW_letters 10 rfl) k_RW_33 (c_RW_one l hE (t := tt) (v := (sby i j)) (g := (up2 g 4 1 (nI tt.length))) (A := (va_up A 25 f)) hb1 (by omega) up2_self hn (by rw [va_up_self]; exact hf)) (by decide) rfl rfl rfl (Nat.le_of_ble_eq_true rfl) (by decide) rfl rfl (by decide) ?_
        rintro ρ9 g9 A9 n9 tx9 ⟨e1, e2, ⟨f9, e3, hf9⟩, e4, e5⟩
        replace e1 := e1.symm; subst e1; subst e2; subst e3; replace e4 := e4.symm; subst e4; replace e5 := e5.symm; subst e5
        refine v_stg (up2_up2 _ _ _ _ _) ?_
        refine v_stA (va_up_up _ _ _ _) ?_
        refine v_iinc_2 G (nI (j + 1)) (decAt dd_RW_letters 11 rfl) ((nI_1 _)) (by decide) rfl ?_
        refine v_goto G 2 (decAt dd_RW_letters 12 rfl) (by decide) ?_
        refine ih (j + 1) f9 (tt ++ [sby i j]) (by omega) ?_ hf9
        rw [htt, List.append_assoc]
        congr 1
        exact take_push (by omega)
  refine v_iconst G 0 (decAt dd_RW_letters 0 rfl) (by decide) ?_
  refine v_istore_2 G (decAt dd_RW_letters 1 rfl) (by decide) rfl ?_
  refine v_stg (up2_id hm).symm ?_
  refine v_stA (va_up_id A 25).symm ?_
  exact J (sle i) 0 (A 25) t (by omega) (by simp) hT
set_option maxHeartbeats 4000000 in
theorem c_RW_number (l : Launch) {E : Bs} (hE : Hb E) {ρ : Nat → Nat} {g A : Nat → Nat → Int32} {n : Nat → Nat} {tx : Value} {t : List Int32} {v : Int32} (hl : t.length + 11 ≤ 4096) (hm : g 4 1 = nI t.length) (hn : n 25 = 4096) (hT : TxI (A 25) t) : CW l E DC AC y_RW_number b_RW_number 3 none ({ frames := 1, cells := 0, slots := 0, locals := 22 } : Room) [.ref (E.o 4), .int v] ρ g A n tx (fun r ρ' g' A' n' tx' => r = none ∧ TxP (t ++ dec v) ρ g A n tx ρ' g' A' n' tx') := by
  refine CW.start [some (.ref (E.o 4)), some (.int v), none] hE (by decide) (Nat.le_of_ble_eq_true rfl) rfl ?_
  intro p e s m args below meth c G
  have hvs := i32_sg v
  have hvm : v.toInt = ((v.toInt.natAbs : Nat) : Int) ∨ v.toInt = -((v.toInt.natAbs : Nat) : Int) := hvs.imp (fun z => z.2) (fun z => z.2)
  have hmb : v.toInt.natAbs ≤ 2147483648 := by have := v.toInt_lt; have := v.le_toInt; omega
  generalize hmd : v.toInt.natAbs = M at hvm hmb
  have J29 : ∀ (k : Nat) (f : Nat → Int32) (tt : List Int32), k < 10 → tt ++ dgF M k = t ++ dec v → TxI f tt → tt.length + k + 1 ≤ 4096 → V p l e ({ frames := 1, cells := 0, slots := 0, locals := 22 } : Room) s m args below meth c 3 (Sy E DC AC s.heap ρ (up2 g 4 1 (nI tt.length)) (va_up A 25 f) n tx) 0 0 (MQ below (QW E DC AC (fun r ρ' g' A' n' tx' => r = none ∧ TxP (t ++ dec v) ρ g A n tx ρ' g' A' n' tx')) args s 0 0 E.F) 29 [some (.ref (E.o 4)), some (.int v), some (.int (nI (10 ^ k)))] [] := by
    intro k
    induction k with
    | zero =>
      intro f tt hk htt hf hl2
      refine v_iload_n G (decAt dd_RW_number 18 rfl) rfl ?_
      refine v_if_le G 57 (decAt dd_RW_number 19 rfl) (by decide) (fun c30 => ?_) (fun c30 => ?_)
      · skip
        exact absurd c30 (by decide)
      · skip
        refine v_aload_n G (decAt dd_RW_number 20 rfl) rfl ?_
        refine v_bipush G 48 (decAt dd_RW_number 21 rfl) (by decide) ?_
        refine v_iload_n G (decAt dd_RW_number 22 rfl) rfl ?_
        refine v_iload_n G (decAt dd_RW_number 23 rfl) rfl ?_
        refine v_idiv G (decAt dd_RW_number 24 rfl) (nI_ne0 (p10_lt 0 (by omega)).1 (p10_lt 0 (by omega)).2) ?_
        refine v_bipush G 10 (decAt dd_RW_number 25 rfl) (by decide) ?_
        refine v_irem G (decAt dd_RW_number 26 rfl) (by decide) ?_
        refine p_callSi G (XB_Sy G) (As := [.int (v / nI (10 ^ 0) - v / nI (10 ^ 0) / 10 * 10)]) (decAt dd_RW_number 27 rfl) k_RW_37 (c_MA_abs l hE) rfl rfl (Nat.le_of_ble_eq_true rfl) (by decide) rfl rfl (by decide) ?_
        refine v_iadd G (decAt dd_RW_number 28 rfl) ?_
        refine v_ri (y := (nI (48 + M / 10 ^ 0 % 10))) (i32_digit (i32_div (p10_lt 0 (by omega)).2 hvm)) ?_
        refine v_callVv0 G (As := [.int (nI (48 + M / 10 ^ 0 % 10))]) (decAt dd_RW_number 29 rfl) k_RW_33 (c_RW_one l hE (t := tt) (v := (nI (48 + M / 10 ^ 0 % 10))) (g := (up2 g 4 1 (nI tt.length))) (A := (va_up A 25 f)) (dig_b _ (Nat.mod_lt _ (by omega))) (by omega) up2_self hn (by rw [va_up_self]; exact hf)) (by decide) rfl rfl rfl (Nat.le_of_ble_eq_true rfl) (by decide) rfl rfl (by decide) ?_
        rintro ρ9 g9 A9 n9 tx9 ⟨e1, e2, ⟨f9, e3, hf9⟩, e4, e5⟩
        replace e1 := e1.symm; subst e1; subst e2; subst e3; replace e4 := e4.symm; subst e4; replace e5 := e5.symm; subst e5
        refine v_stg (up2_up2 _ _ _ _ _) ?_
        refine v_stA (va_up_up _ _ _ _) ?_
        refine v_iload_n G (decAt dd_RW_number 30 rfl) rfl ?_
        refine v_bipush G 10 (decAt dd_RW_number 31 rfl) (by decide) ?_
        refine v_idiv G (decAt dd_RW_number 32 rfl) (by decide) ?_
        refine v_ri (y := 0) (by decide) ?_
        refine v_istore_2 G (decAt dd_RW_number 33 rfl) (by decide) rfl ?_
        refine v_goto G 29 (decAt dd_RW_number 34 rfl) (by decide) ?_
        refine v_iload_n G (decAt dd_RW_number 18 rfl) rfl ?_
        refine v_if_le G 57 (decAt dd_RW_number 19 rfl) (by decide) (fun _ => ?_) (fun c30 => absurd c30 (by decide))
        rw [show M / 10 ^ 0 = M from by rw [Nat.pow_zero, Nat.div_one]] at hf9
        have e : tt ++ [nI (48 + M % 10)] = t ++ dec v := htt
        rw [e] at hf9
        refine v_stg (g' := up2 g 4 1 (nI (t ++ dec v).length)) (by rw [← e, List.length_append, List.length_append]; rfl) ?_
        exact v_vret G (decAt dd_RW_number 35 rfl) rfl ⟨rfl, rfl, rfl, ⟨f9, rfl, hf9⟩, rfl, rfl⟩
    | succ k ih =>
      intro f tt hk htt hf hl2
      refine v_iload_n G (decAt dd_RW_number 18 rfl) rfl ?_
      refine v_if_le G 57 (decAt dd_RW_number 19 rfl) (by decide) (fun c30 => ?_) (fun c30 => ?_)
      · skip
        exact absurd c30 (nI_nle (p10_lt (k + 1) (by omega)).1 (p10_lt (k + 1) (by omega)).2)
      · skip
        refine v_aload_n G (decAt dd_RW_number 20 rfl) rfl ?_
        refine v_bipush G 48 (decAt dd_RW_number 21 rfl) (by decide) ?_
        refine v_iload_n G (decAt dd_RW_number 22 rfl) rfl ?_
        refine v_iload_n G (decAt dd_RW_number 23 rfl) rfl ?_
        refine v_idiv G (decAt dd_RW_number 24 rfl) (nI_ne0 (p10_lt (k + 1) (by omega)).1 (p10_lt (k + 1) (by omega)).2) ?_
        refine v_bipush G 10 (decAt dd_RW_number 25 rfl) (by decide) ?_
        refine v_irem G (decAt dd_RW_number 26 rfl) (by decide) ?_
        refine p_callSi G (XB_Sy G) (As := [.int (v / nI (10 ^ (k + 1)) - v / nI (10 ^ (k + 1)) / 10 * 10)]) (decAt dd_RW_number 27 rfl) k_RW_37 (c_MA_abs l hE) rfl rfl (Nat.le_of_ble_eq_true rfl) (by decide) rfl rfl (by decide) ?_
        refine v_iadd G (decAt dd_RW_number 28 rfl) ?_
        refine v_ri (y := (nI (48 + M / 10 ^ (k + 1) % 10))) (i32_digit (i32_div (p10_lt (k + 1) (by omega)).2 hvm)) ?_
        refine v_callVv0 G (As := [.int (nI (48 + M / 10 ^ (k + 1) % 10))]) (decAt dd_RW_number 29 rfl) k_RW_33 (c_RW_one l hE (t := tt) (v := (nI (48 + M / 10 ^ (k + 1) % 10))) (g := (up2 g 4 1 (nI tt.length))) (A := (va_up A 25 f)) (dig_b _ (Nat.mod_lt _ (by omega))) (by omega) up2_self hn (by rw [va_up_self]; exact hf)) (by decide) rfl rfl rfl (Nat.le_of_ble_eq_true rfl) (by decide) rfl rfl (by decide) ?_
        rintro ρ9 g9 A9 n9 tx9 ⟨e1, e2, ⟨f9, e3, hf9⟩, e4, e5⟩
        replace e1 := e1.symm; subst e1; subst e2; subst e3; replace e4 := e4.symm; subst e4; replace e5 := e5.symm; subst e5
        refine v_stg (up2_up2 _ _ _ _ _) ?_
        refine v_stA (va_up_up _ _ _ _) ?_
        refine v_iload_n G (decAt dd_RW_number 30 rfl) rfl ?_
        refine v_bipush G 10 (decAt dd_RW_number 31 rfl) (by decide) ?_
        refine v_idiv G (decAt dd_RW_number 32 rfl) (by decide) ?_
        refine v_ri (y := nI (10 ^ k)) (p10_div k (by omega)) ?_
        refine v_istore_2 G (decAt dd_RW_number 33 rfl) (by decide) rfl ?_
        refine v_goto G 29 (decAt dd_RW_number 34 rfl) (by decide) ?_
        exact ih f9 (tt ++ [nI (48 + M / 10 ^ (k + 1) % 10)]) (by omega) (by rw [List.append_assoc]; exact htt) hf9 (by rw [List.length_append, List.length_singleton]; omega)
  have J12 : ∀ (d k : Nat) (f : Nat → Int32) (tt : List Int32), k + d = 9 → lgt 10 M = k + lgt (d + 1) (M / 10 ^ k) → tt = t ++ (if v < 0 then [45] else []) → TxI f tt → V p l e ({ frames := 1, cells := 0, slots := 0, locals := 22 } : Room) s m args below meth c 3 (Sy E DC AC s.heap ρ (up2 g 4 1 (nI tt.length)) (va_up A 25 f) n tx) 0 0 (MQ below (QW E DC AC (fun r ρ' g' A' n' tx' => r = none ∧ TxP (t ++ dec v) ρ g A n tx ρ' g' A' n' tx')) args s 0 0 E.F) 12 [some (.ref (E.o 4)), some (.int v), some (.int (nI (10 ^ k)))] [] := by
    intro d
    induction d with
    | zero =>
      intro k f tt hk hlg htt hf
      have hp := p10_lt k (by omega)
      have hq := i32_div hp.2 hvm
      have hq2 : (v / nI (10 ^ k) / 10 = 0) ↔ M / 10 ^ k / 10 = 0 := i32_eq0 (i32_div (u := 10) (by omega) hq)
      have htl : tt.length ≤ t.length + 1 := by rw [htt, List.length_append]; split <;> simp
      refine v_iload_n G (decAt dd_RW_number 7 rfl) rfl ?_
      refine v_iload_n G (decAt dd_RW_number 8 rfl) rfl ?_
      refine v_idiv G (decAt dd_RW_number 9 rfl) (nI_ne0 hp.1 hp.2) ?_
      refine v_bipush G 10 (decAt dd_RW_number 10 rfl) (by decide) ?_
      refine v_idiv G (decAt dd_RW_number 11 rfl) (by decide) ?_
      refine v_if_eq G 29 (decAt dd_RW_number 12 rfl) (by decide) (fun c18 => ?_) (fun c18 => ?_)
      · skip
        have hlt : M / 10 ^ k < 10 := by have := hq2.mp c18; omega
        have hlg2 : lgt 10 M = k := by rw [hlg, lgt, if_pos hlt]; rfl
        exact J29 k f tt (by omega) (by rw [htt]; unfold dec; rw [hmd, hlg2, List.append_assoc]) hf (by omega)
      · skip
        exact absurd (hq2.mpr (by rw [show k = 9 by omega]; omega)) c18
    | succ d ih =>
      intro k f tt hk hlg htt hf
      have hp := p10_lt k (by omega)
      have hq := i32_div hp.2 hvm
      have hq2 : (v / nI (10 ^ k) / 10 = 0) ↔ M / 10 ^ k / 10 = 0 := i32_eq0 (i32_div (u := 10) (by omega) hq)
      have htl : tt.length ≤ t.length + 1 := by rw [htt, List.length_append]; split <;> simp
      refine v_iload_n G (decAt dd_RW_number 7 rfl) rfl ?_
      refine v_iload_n G (decAt dd_RW_number 8 rfl) rfl ?_
      refine v_idiv G (decAt dd_RW_number 9 rfl) (nI_ne0 hp.1 hp.2) ?_
      refine v_bipush G 10 (decAt dd_RW_number 10 rfl) (by decide) ?_
      refine v_idiv G (decAt dd_RW_number 11 rfl) (by decide) ?_
      refine v_if_eq G 29 (decAt dd_RW_number 12 rfl) (by decide) (fun c18 => ?_) (fun c18 => ?_)
      · skip
        have hlt : M / 10 ^ k < 10 := by have := hq2.mp c18; omega
        have hlg2 : lgt 10 M = k := by rw [hlg, lgt, if_pos hlt]; rfl
        exact J29 k f tt (by omega) (by rw [htt]; unfold dec; rw [hmd, hlg2, List.append_assoc]) hf (by omega)
      · skip
        refine v_iload_n G (decAt dd_RW_number 13 rfl) rfl ?_
        refine v_bipush G 10 (decAt dd_RW_number 14 rfl) (by decide) ?_
        refine v_imul G (decAt dd_RW_number 15 rfl) ?_
        refine v_ri (y := (nI (10 ^ (k + 1)))) (p10_mul k (by omega)) ?_
        refine v_istore_2 G (decAt dd_RW_number 16 rfl) (by decide) rfl ?_
        refine v_goto G 12 (decAt dd_RW_number 17 rfl) (by decide) ?_
        have hge : ¬ M / 10 ^ k < 10 := fun z => c18 (hq2.mpr (Nat.div_eq_of_lt z))
        refine ih (k + 1) f tt (by omega) ?_ htt hf
        rw [hlg, lgt, if_neg hge, Nat.pow_succ, Nat.div_div_eq_div_mul]
        omega
  refine v_iload_n G (decAt dd_RW_number 0 rfl) rfl ?_
  refine v_if_ge G 10 (decAt dd_RW_number 1 rfl) (by decide) (fun c1 => ?_) (fun c1 => ?_)
  · skip
    refine v_iconst G 1 (decAt dd_RW_number 5 rfl) (by decide) ?_
    refine v_istore_2 G (decAt dd_RW_number 6 rfl) (by decide) rfl ?_
    refine v_stg (up2_id hm).symm ?_
    refine v_stA (va_up_id A 25).symm ?_
    exact J12 9 0 (A 25) t (by omega) (by rw [Nat.pow_zero, Nat.div_one]; exact (Nat.zero_add _).symm) (by rw [if_neg (Int32.not_lt.mpr c1)]; simp) hT
  · skip
    refine v_aload_n G (decAt dd_RW_number 2 rfl) rfl ?_
    refine v_bipush G 45 (decAt dd_RW_number 3 rfl) (by decide) ?_
    refine v_callVv0 G (As := [.int 45]) (decAt dd_RW_number 4 rfl) k_RW_33 (c_RW_one l hE (t := t) (v := 45) (g := g) (A := A) (by decide) (by omega) hm hn hT) (by decide) rfl rfl rfl (Nat.le_of_ble_eq_true rfl) (by decide) rfl rfl (by decide) ?_
    rintro ρ9 g9 A9 n9 tx9 ⟨e1, e2, ⟨f9, e3, hf9⟩, e4, e5⟩
    replace e1 := e1.symm; subst e1; subst e2; subst e3; replace e4 := e4.symm; subst e4; replace e5 := e5.symm; subst e5
    skip
    refine v_iconst G 1 (decAt dd_RW_number 5 rfl) (by decide) ?_
    refine v_istore_2 G (decAt dd_RW_number 6 rfl) (by decide) rfl ?_
    exact J12 9 0 f9 (t ++ [45]) (by omega) (by rw [Nat.pow_zero, Nat.div_one]; exact (Nat.zero_add _).symm) (by rw [if_pos (by first | exact c1 | exact Int32.not_le.mp c1)]) hf9
set_option maxHeartbeats 4000000 in
theorem c_GN_line (l : Launch) {E : Bs} (hE : Hb E) {ρ : Nat → Nat} {g A : Nat → Nat → Int32} {n : Nat → Nat} {tx : Value} {t : List Int32} {i : Nat} {v : Int32} (hi : i < 17) (hl : t.length + 20 ≤ 4096) (hm : g 4 1 = nI t.length) (hn : n 25 = 4096) (hT : TxI (A 25) t) : CW l E DC AC y_GN_line b_GN_line 3 none ({ frames := 5, cells := 0, slots := 0, locals := 107 } : Room) [.ref (E.o 3), .ref (E.st (10 + i)), .int v] ρ g A n tx (fun r ρ' g' A' n' tx' => r = none ∧ TxP (t ++ (sbyt.getD i [] ++ dec v ++ [10])) ρ g A n tx ρ' g' A' n' tx') := by
  refine CW.start [some (.ref (E.o 3)), some (.ref (E.st (10 + i))), some (.int v)] hE (by decide) (Nat.le_of_ble_eq_true rfl) rfl ?_
  intro p e s m args below meth c G
  have h8 := sle_ok i hi
  have hle := sle_len i hi
  have hde := dec_len v
  refine v_aload_n G (decAt dd_GN_line 0 rfl) rfl ?_
  refine v_geto G (decAt dd_GN_line 1 rfl) f_GN_12 ?_
  refine v_aload_n G (decAt dd_GN_line 2 rfl) rfl ?_
  refine v_callVv0 G (As := [.ref (E.st (10 + i))]) (decAt dd_GN_line 3 rfl) k_GN_70 (c_RW_letters l hE hi (by omega) hm hn hT) (by decide) rfl rfl rfl (Nat.le_of_ble_eq_true rfl) (by decide) rfl rfl (by decide) ?_
  rintro ρ9 g9 A9 n9 tx9 ⟨e1, e2, ⟨f8, e3, hf8⟩, e4, e5⟩
  replace e1 := e1.symm; subst e1; subst e2; subst e3; replace e4 := e4.symm; subst e4; replace e5 := e5.symm; subst e5
  refine v_aload_n G (decAt dd_GN_line 4 rfl) rfl ?_
  refine v_geto G (decAt dd_GN_line 5 rfl) f_GN_12 ?_
  refine v_iload_n G (decAt dd_GN_line 6 rfl) rfl ?_
  refine v_callVv0 G (As := [.int v]) (decAt dd_GN_line 7 rfl) k_GN_74 (c_RW_number l hE (t := t ++ sbyt.getD i []) (v := v) (by rw [List.length_append]; omega) up2_self hn (by rw [va_up_self]; exact hf8)) (by decide) rfl rfl rfl (Nat.le_of_ble_eq_true rfl) (by decide) rfl rfl (by decide) ?_
  rintro ρ9 g9 A9 n9 tx9 ⟨e1, e2, ⟨f7, e3, hf7⟩, e4, e5⟩
  replace e1 := e1.symm; subst e1; subst e2; subst e3; replace e4 := e4.symm; subst e4; replace e5 := e5.symm; subst e5
  refine v_stg (up2_up2 _ _ _ _ _) ?_
  refine v_stA (va_up_up _ _ _ _) ?_
  refine v_aload_n G (decAt dd_GN_line 8 rfl) rfl ?_
  refine v_geto G (decAt dd_GN_line 9 rfl) f_GN_12 ?_
  refine v_bipush G 10 (decAt dd_GN_line 10 rfl) (by decide) ?_
  refine v_callVv0 G (As := [.int 10]) (decAt dd_GN_line 11 rfl) k_GN_77 (c_RW_one l hE (t := (t ++ sbyt.getD i [] ++ dec v)) (v := 10) (g := (up2 g 4 1 (nI (t ++ sbyt.getD i [] ++ dec v).length))) (A := (va_up A 25 f7)) (by decide) (by rw [List.length_append, List.length_append]; omega) up2_self hn (by rw [va_up_self]; exact hf7)) (by decide) rfl rfl rfl (Nat.le_of_ble_eq_true rfl) (by decide) rfl rfl (by decide) ?_
  rintro ρ9 g9 A9 n9 tx9 ⟨e1, e2, ⟨f9, e3, hf9⟩, e4, e5⟩
  replace e1 := e1.symm; subst e1; subst e2; subst e3; replace e4 := e4.symm; subst e4; replace e5 := e5.symm; subst e5
  refine v_stg (up2_up2 _ _ _ _ _) ?_
  refine v_stA (va_up_up _ _ _ _) ?_
  have e : t ++ sbyt.getD i [] ++ dec v ++ [10] = t ++ (sbyt.getD i [] ++ dec v ++ [10]) := by simp only [List.append_assoc]
  rw [e] at hf9
  refine v_stg (g' := up2 g 4 1 (nI (t ++ (sbyt.getD i [] ++ dec v ++ [10])).length)) (by rw [e]) ?_
  exact v_vret G (decAt dd_GN_line 12 rfl) rfl ⟨rfl, rfl, rfl, ⟨f9, rfl, hf9⟩, rfl, rfl⟩
