/-! Loader: number, word -/
theorem nI_mul (a b : Nat) : nI a * nI b = nI (a * b) := by
  induction b with
  | zero => rw [Nat.mul_zero, nI_0, Int32.mul_zero]
  | succ b ih => rw [Nat.mul_succ, ← nI_1, ← nI_add (a * b) a, ← ih, Int32.mul_add, Int32.mul_one]
def pacc (a : Int32) (ds : List Int32) : Int32 := ds.foldl (fun a d => 10 * a - (d - 48)) a
theorem pacc_step (x d : Nat) : 10 * (-(nI x)) - (nI (48 + d) - 48) = -(nI (10 * x + d)) := by
  have h1 : nI (48 + d) - 48 = nI d := by rw [Nat.add_comm]; exact nI_sub d 48
  have h2 : (10 : Int32) * (-(nI x)) = -(nI (10 * x)) := by rw [Int32.mul_neg]; exact congrArg _ (nI_mul 10 x)
  rw [h1, h2, ← nI_add, Int32.neg_add, Int32.sub_eq_add_neg]
theorem pacc_dgF (m : Nat) : ∀ k, pacc (-(nI (m / 10 ^ (k + 1)))) (dgF m k) = -(nI m)
  | 0 => by
    show 10 * (-(nI (m / 10 ^ 1))) - (nI (48 + m % 10) - 48) = _
    rw [pacc_step, show 10 * (m / 10 ^ 1) + m % 10 = m by omega]
  | k + 1 => by
    show pacc (10 * (-(nI (m / 10 ^ (k + 1 + 1)))) - (nI (48 + m / 10 ^ (k + 1) % 10) - 48)) (dgF m k) = _
    rw [pacc_step, show 10 * (m / 10 ^ (k + 1 + 1)) + m / 10 ^ (k + 1) % 10 = m / 10 ^ (k + 1) from by
      rw [Nat.pow_succ 10 (k + 1), ← Nat.div_div_eq_div_mul]
      omega]
    exact pacc_dgF m k
theorem lgt_lt : ∀ f m, m < 10 ^ f → m < 10 ^ (lgt f m + 1)
  | 0, m, h => by rw [Nat.pow_zero] at h; rw [show m = 0 by omega]; decide
  | f + 1, m, h => by
    rw [lgt]
    split
    · next h1 => simpa using h1
    · next h1 =>
      have := lgt_lt f (m / 10) (by rw [Nat.pow_succ] at h; exact Nat.div_lt_of_lt_mul (by rw [Nat.mul_comm]; exact h))
      rw [Nat.pow_succ]
      have h2 := (Nat.div_lt_iff_lt_mul (by omega : 0 < 10)).mp this
      exact h2
theorem pacc_dec (m : Nat) (h : m < 10 ^ 10) : pacc 0 (dgF m (lgt 10 m)) = -(nI m) := by
  have h0 := pacc_dgF m (lgt 10 m)
  rwa [Nat.div_eq_of_lt (lgt_lt 10 m h), nI_0, Int32.neg_zero] at h0
theorem dgF_dig (m : Nat) : ∀ k d, d ∈ dgF m k → ∃ x, x < 10 ∧ d = nI (48 + x)
  | 0, d, h => ⟨m % 10, Nat.mod_lt _ (by omega), by simpa [dgF] using h⟩
  | k + 1, d, h => by
    rw [dgF] at h
    rcases List.mem_cons.mp h with h | h
    · exact ⟨_, Nat.mod_lt _ (by omega), h⟩
    · exact dgF_dig m k d h
/-- the text from a place on -/
def TxA (f : Nat → Int32) (at_ : Nat) (t : List Int32) : Prop := ∀ i v, t[i]? = some v → f (at_ + i) = v
theorem TxA.cons {f : Nat → Int32} {a : Nat} {v : Int32} {t : List Int32} (h : TxA f a (v :: t)) : f a = v ∧ TxA f (a + 1) t := ⟨h 0 v rfl, fun i w hi => by rw [show a + 1 + i = a + (i + 1) by omega]; exact h (i + 1) w (by simpa using hi)⟩
theorem TxA.app {f : Nat → Int32} {a : Nat} {s t : List Int32} (h : TxA f a (s ++ t)) : TxA f a s ∧ TxA f (a + s.length) t :=
  ⟨fun i v hi => h i v (by rw [List.getElem?_append_left (List.getElem?_eq_some_iff.mp hi).1]; exact hi), fun i v hi => by rw [Nat.add_assoc]; exact h (s.length + i) v (by rw [List.getElem?_append_right (by omega), show s.length + i - s.length = i by omega]; exact hi)⟩

theorem neg_nI {m : Nat} (h : m ≤ 2147483648) : (-(nI m)).toInt = -(m : Int) := by
  by_cases e : m = 2147483648
  · subst e; decide
  · rw [Int32.toInt_neg, nI_toInt (by omega)]
    exact Int.bmod_eq_of_le (by omega) (by omega)
set_option maxHeartbeats 4000000 in
theorem c_LD_number (l : Launch) {E : Bs} (hE : Hb E) {ρ : Nat → Nat} {g A : Nat → Nat → Int32} {n : Nat → Nat} {v : Int32} {at_ : Nat} (hat : g 5 5 = nI at_) (hT : TxA (A 25) at_ (dec v ++ [10])) (hle : at_ + (dec v).length + 1 ≤ n 25) (hb : n 25 = 4096) : CW l E DC AC y_LD_number b_LD_number 3 (some .int) ({ frames := 0, cells := 0, slots := 0, locals := 0 } : Room) [.ref (E.o 5)] ρ g A n (.ref (E.o 4)) (fun r ρ' g' A' n' tx' => r = some (.int v) ∧ ρ' = ρ ∧ g' = up2 g 5 5 (nI (at_ + (dec v).length + 1)) ∧ A' = A ∧ n' = n ∧ tx' = (.ref (E.o 4))) := by
  refine CW.start [some (.ref (E.o 5)), none, none] hE (by decide) (Nat.le_of_ble_eq_true rfl) rfl ?_
  intro p e s m args below meth c G
  have hvs := i32_sg v
  have hmb : v.toInt.natAbs < 10 ^ 10 := by have := v.toInt_lt; have := v.le_toInt; omega
  have hpd := pacc_dec _ hmb
  have J39 : ∀ (ds : List Int32) (a b : Nat) (acc : Int32), (∀ d, d ∈ ds → ∃ x, x < 10 ∧ d = nI (48 + x)) → TxA (A 25) a (ds ++ [10]) → a + ds.length = at_ + (dec v).length → (if b = 1 then pacc acc ds else -(pacc acc ds)) = v → b ≤ 1 → V p l e ({ frames := 0, cells := 0, slots := 0, locals := 0 } : Room) s m args below meth c 3 (Sy E DC AC s.heap ρ (up2 g 5 5 (nI a)) A n (.ref (E.o 4))) 0 0 (MQ below (QW E DC AC (fun r ρ' g' A' n' tx' => r = some (.int v) ∧ ρ' = ρ ∧ g' = up2 g 5 5 (nI (at_ + (dec v).length + 1)) ∧ A' = A ∧ n' = n ∧ tx' = (.ref (E.o 4)))) args s 0 0 E.F) 39 [some (.ref (E.o 5)), some (.int (nI b)), some (.int acc)] [] := by
    intro ds
    induction ds with
    | nil =>
      intro a b acc hd hT hal hv hb1
      have h10 := hT.cons.1
      simp only [List.length_nil] at hal
      refine v_aload_n G (decAt dd_LD_number 22 rfl) rfl ?_
      refine v_gett G (decAt dd_LD_number 23 rfl) f_LD_31 ?_
      refine v_geta G (decAt dd_LD_number 24 rfl) f_LD_35 ?_
      refine v_aload_n G (decAt dd_LD_number 25 rfl) rfl ?_
      refine v_geti G (decAt dd_LD_number 26 rfl) f_LD_41 ?_
      refine v_ri (y := (nI a)) up2_self ?_
      refine v_bald G 25 a (decAt dd_LD_number 27 rfl) (by decide) rfl rfl (by omega) ?_
      refine v_ri (y := 10) h10 ?_
      refine v_bipush G 10 (decAt dd_LD_number 28 rfl) (by decide) ?_
      refine v_icmp_eq G 90 (decAt dd_LD_number 29 rfl) (by decide) (fun _ => ?_) (fun c53 => absurd c53 (by decide))
      refine v_aload_n G (decAt dd_LD_number 50 rfl) rfl ?_
      refine v_dup G (decAt dd_LD_number 51 rfl) rfl ?_
      refine v_geti G (decAt dd_LD_number 52 rfl) f_LD_41 ?_
      refine v_ri (y := (nI a)) up2_self ?_
      refine v_iconst G 1 (decAt dd_LD_number 53 rfl) (by decide) ?_
      refine v_iadd G (decAt dd_LD_number 54 rfl) ?_
      refine v_ri (y := (nI (a + 1))) (nI_1 _) ?_
      refine v_puti G (decAt dd_LD_number 55 rfl) f_LD_41 rfl rfl rfl ?_
      refine v_iload_n G (decAt dd_LD_number 56 rfl) rfl ?_
      refine v_if_eq G 108 (decAt dd_LD_number 57 rfl) (by decide) (fun c101 => ?_) (fun c101 => ?_)
      · skip
        refine v_iload_n G (decAt dd_LD_number 60 rfl) rfl ?_
        refine v_ineg G (decAt dd_LD_number 61 rfl) ?_
        refine v_stg (g' := up2 g 5 5 (nI (at_ + (dec v).length + 1))) (by rw [up2_up2]; congr 2; omega) ?_
        exact v_iret G (decAt dd_LD_number 62 rfl) rfl ⟨some_i (by rw [← hv]; rw [if_neg (fun z => by rw [z] at c101; exact absurd c101 (by decide))]; rfl), rfl, rfl, rfl, rfl, rfl⟩
      · skip
        refine v_iload_n G (decAt dd_LD_number 58 rfl) rfl ?_
        refine v_goto G 110 (decAt dd_LD_number 59 rfl) (by decide) ?_
        refine v_stg (g' := up2 g 5 5 (nI (at_ + (dec v).length + 1))) (by rw [up2_up2]; congr 2; omega) ?_
        exact v_iret G (decAt dd_LD_number 62 rfl) rfl ⟨some_i (by rw [← hv]; rw [if_pos (by rcases (show b = 0 ∨ b = 1 by omega) with z | z; exact absurd (by rw [z]; rfl) c101; exact z)]; rfl), rfl, rfl, rfl, rfl, rfl⟩
    | cons d ds ih =>
      intro a b acc hd hT hal hv hb1
      obtain ⟨h10, hT'⟩ := TxA.cons hT
      obtain ⟨x, hx, hdx⟩ := hd d List.mem_cons_self
      simp only [List.length_cons] at hal
      refine v_aload_n G (decAt dd_LD_number 22 rfl) rfl ?_
      refine v_gett G (decAt dd_LD_number 23 rfl) f_LD_31 ?_
      refine v_geta G (decAt dd_LD_number 24 rfl) f_LD_35 ?_
      refine v_aload_n G (decAt dd_LD_number 25 rfl) rfl ?_
      refine v_geti G (decAt dd_LD_number 26 rfl) f_LD_41 ?_
      refine v_ri (y := (nI a)) up2_self ?_
      refine v_bald G 25 a (decAt dd_LD_number 27 rfl) (by decide) rfl rfl (by omega) ?_
      refine v_ri (y := d) h10 ?_
      refine v_bipush G 10 (decAt dd_LD_number 28 rfl) (by decide) ?_
      refine v_icmp_eq G 90 (decAt dd_LD_number 29 rfl) (by decide) (fun c53 => ?_) (fun c53 => ?_)
      · skip
        exact absurd (hdx.symm.trans c53) (nI_lit (b := 10) (by omega) (by omega) (by omega))
      · skip
        refine v_bipush G 10 (decAt dd_LD_number 30 rfl) (by decide) ?_
        refine v_iload_n G (decAt dd_LD_number 31 rfl) rfl ?_
        refine v_imul G (decAt dd_LD_number 32 rfl) ?_
        refine v_aload_n G (decAt dd_LD_number 33 rfl) rfl ?_
        refine v_gett G (decAt dd_LD_number 34 rfl) f_LD_31 ?_
        refine v_geta G (decAt dd_LD_number 35 rfl) f_LD_35 ?_
        refine v_aload_n G (decAt dd_LD_number 36 rfl) rfl ?_
        refine v_geti G (decAt dd_LD_number 37 rfl) f_LD_41 ?_
        refine v_ri (y := (nI a)) up2_self ?_
        refine v_bald G 25 a (decAt dd_LD_number 38 rfl) (by decide) rfl rfl (by omega) ?_
        refine v_ri (y := d) h10 ?_
        refine v_bipush G 48 (decAt dd_LD_number 39 rfl) (by decide) ?_
        refine v_isub G (decAt dd_LD_number 40 rfl) ?_
        refine v_isub G (decAt dd_LD_number 41 rfl) ?_
        refine v_istore_2 G (decAt dd_LD_number 42 rfl) (by decide) rfl ?_
        refine v_aload_n G (decAt dd_LD_number 43 rfl) rfl ?_
        refine v_dup G (decAt dd_LD_number 44 rfl) rfl ?_
        refine v_geti G (decAt dd_LD_number 45 rfl) f_LD_41 ?_
        refine v_ri (y := (nI a)) up2_self ?_
        refine v_iconst G 1 (decAt dd_LD_number 46 rfl) (by decide) ?_
        refine v_iadd G (decAt dd_LD_number 47 rfl) ?_
        refine v_ri (y := (nI (a + 1))) (nI_1 _) ?_
        refine v_puti G (decAt dd_LD_number 48 rfl) f_LD_41 rfl rfl rfl ?_
        refine v_goto G 39 (decAt dd_LD_number 49 rfl) (by decide) ?_
        refine v_stg (up2_up2 _ _ _ _ _) ?_
        exact ih (a + 1) b (10 * acc - (d - 48)) (fun e he => hd e (List.mem_cons_of_mem _ he)) hT' (by omega) hv hb1
  rcases hvs with ⟨hs, hm⟩ | ⟨hs, hm⟩
  · skip
    have hde : dec v = dgF v.toInt.natAbs (lgt 10 v.toInt.natAbs) := by unfold dec; rw [if_neg hs, List.nil_append]
    have hvv : -(pacc 0 (dgF v.toInt.natAbs (lgt 10 v.toInt.natAbs))) = v := by
      rw [hpd, Int32.neg_neg]
      apply Int32.toInt_inj.mp
      rw [nI_toInt (by have := v.toInt_lt; omega)]
      exact hm.symm
    rw [hde] at hT hle
    obtain ⟨d0, hd0⟩ : ∃ d, (dgF v.toInt.natAbs (lgt 10 v.toInt.natAbs))[0]? = some d := ⟨_, List.getElem?_eq_getElem (by rw [dgF_len]; omega)⟩
    have hA0 : A 25 at_ = d0 := (hT.app.1) 0 d0 hd0
    obtain ⟨x, hx, hdx⟩ := dgF_dig _ _ d0 (List.mem_of_getElem? hd0)
    refine v_aload_n G (decAt dd_LD_number 0 rfl) rfl ?_
    refine v_gett G (decAt dd_LD_number 1 rfl) f_LD_31 ?_
    refine v_geta G (decAt dd_LD_number 2 rfl) f_LD_35 ?_
    refine v_aload_n G (decAt dd_LD_number 3 rfl) rfl ?_
    refine v_geti G (decAt dd_LD_number 4 rfl) f_LD_41 ?_
    refine v_ri (y := (nI at_)) hat ?_
    refine v_bald G 25 at_ (decAt dd_LD_number 5 rfl) (by decide) rfl rfl (by omega) ?_
    refine v_ri (y := d0) hA0 ?_
    refine v_bipush G 45 (decAt dd_LD_number 6 rfl) (by decide) ?_
    refine v_icmp_ne G 21 (decAt dd_LD_number 7 rfl) (by decide) (fun c14 => ?_) (fun c14 => ?_)
    · skip
      refine v_iconst G 0 (decAt dd_LD_number 10 rfl) (by decide) ?_
      refine v_istore_1 G (decAt dd_LD_number 11 rfl) (by decide) rfl ?_
      refine v_iload_n G (decAt dd_LD_number 12 rfl) rfl ?_
      refine v_if_eq G 37 (decAt dd_LD_number 13 rfl) (by decide) (fun _ => ?_) (fun c24 => absurd c24 (by decide))
      refine v_iconst G 0 (decAt dd_LD_number 20 rfl) (by decide) ?_
      refine v_istore_2 G (decAt dd_LD_number 21 rfl) (by decide) rfl ?_
      refine v_stg (up2_id hat).symm ?_
      exact J39 _ at_ 0 0 (dgF_dig _ _) hT (by rw [hde]) (by rw [if_neg (by decide)]; exact hvv) (by omega)
    · skip
      exact absurd (hdx.symm.trans (by first | exact c14 | exact Classical.not_not.mp c14)) (nI_lit (b := 45) (by omega) (by omega) (by omega))
  · skip
    have hde : dec v = 45 :: dgF v.toInt.natAbs (lgt 10 v.toInt.natAbs) := by unfold dec; rw [if_pos hs]; rfl
    have hvv : pacc 0 (dgF v.toInt.natAbs (lgt 10 v.toInt.natAbs)) = v := by
      rw [hpd]
      apply Int32.toInt_inj.mp
      rw [neg_nI (m := v.toInt.natAbs) (by have := v.le_toInt; omega)]
      exact hm.symm
    have hdl : (dec v).length = (dgF v.toInt.natAbs (lgt 10 v.toInt.natAbs)).length + 1 := by rw [hde]; rfl
    rw [hde] at hT
    obtain ⟨hA0, hT1⟩ := TxA.cons hT
    refine v_aload_n G (decAt dd_LD_number 0 rfl) rfl ?_
    refine v_gett G (decAt dd_LD_number 1 rfl) f_LD_31 ?_
    refine v_geta G (decAt dd_LD_number 2 rfl) f_LD_35 ?_
    refine v_aload_n G (decAt dd_LD_number 3 rfl) rfl ?_
    refine v_geti G (decAt dd_LD_number 4 rfl) f_LD_41 ?_
    refine v_ri (y := (nI at_)) hat ?_
    refine v_bald G 25 at_ (decAt dd_LD_number 5 rfl) (by decide) rfl rfl (by omega) ?_
    refine v_ri (y := 45) hA0 ?_
    refine v_bipush G 45 (decAt dd_LD_number 6 rfl) (by decide) ?_
    refine v_icmp_ne G 21 (decAt dd_LD_number 7 rfl) (by decide) (fun c14 => absurd c14 (by decide)) (fun _ => ?_)
    refine v_iconst G 1 (decAt dd_LD_number 8 rfl) (by decide) ?_
    refine v_goto G 22 (decAt dd_LD_number 9 rfl) (by decide) ?_
    refine v_istore_1 G (decAt dd_LD_number 11 rfl) (by decide) rfl ?_
    refine v_iload_n G (decAt dd_LD_number 12 rfl) rfl ?_
    refine v_if_eq G 37 (decAt dd_LD_number 13 rfl) (by decide) (fun c24 => absurd c24 (by decide)) (fun _ => ?_)
    refine v_aload_n G (decAt dd_LD_number 14 rfl) rfl ?_
    refine v_dup G (decAt dd_LD_number 15 rfl) rfl ?_
    refine v_geti G (decAt dd_LD_number 16 rfl) f_LD_41 ?_
    refine v_ri (y := (nI at_)) hat ?_
    refine v_iconst G 1 (decAt dd_LD_number 17 rfl) (by decide) ?_
    refine v_iadd G (decAt dd_LD_number 18 rfl) ?_
    refine v_ri (y := (nI (at_ + 1))) (nI_1 _) ?_
    refine v_puti G (decAt dd_LD_number 19 rfl) f_LD_41 rfl rfl rfl ?_
    refine v_iconst G 0 (decAt dd_LD_number 20 rfl) (by decide) ?_
    refine v_istore_2 G (decAt dd_LD_number 21 rfl) (by decide) rfl ?_
    exact J39 _ (at_ + 1) 1 0 (dgF_dig _ _) hT1 (by rw [hdl]; omega) (by rw [if_pos rfl]; exact hvv) (by omega)
set_option maxHeartbeats 4000000 in
theorem c_LD_word (l : Launch) {E : Bs} (hE : Hb E) {ρ : Nat → Nat} {g A : Nat → Nat → Int32} {n : Nat → Nat} {tx : Value} {w : Int32} {mm : Nat} (hm : g 5 1 = nI mm) (hl : mm < 4096) (h26 : n 26 = 4096) : CW l E DC AC y_LD_word b_LD_word 3 none ({ frames := 0, cells := 0, slots := 0, locals := 0 } : Room) [.ref (E.o 5), .int w] ρ g A n tx (fun r ρ' g' A' n' tx' => r = none ∧ ρ' = ρ ∧ g' = up2 g 5 1 (nI (mm + 1)) ∧ A' = va_up A 26 (va_up (A 26) mm w) ∧ n' = n ∧ tx' = tx) := by
  refine CW.start [some (.ref (E.o 5)), some (.int w), none] hE (by decide) (Nat.le_of_ble_eq_true rfl) rfl ?_
  intro p e s m args below meth c G
  refine v_aload_n G (decAt dd_LD_word 0 rfl) rfl ?_
  refine v_geti G (decAt dd_LD_word 1 rfl) f_LD_21 ?_
  refine v_ri (y := (nI mm)) hm ?_
  refine v_aload_n G (decAt dd_LD_word 2 rfl) rfl ?_
  refine v_geta G (decAt dd_LD_word 3 rfl) f_LD_9 ?_
  refine v_alen G 26 (decAt dd_LD_word 4 rfl) (by decide) ?_
  refine v_ri (y := (nI 4096)) (by rw [h26]) ?_
  refine v_icmp_ne G 43 (decAt dd_LD_word 5 rfl) (by decide) (fun c9 => ?_) (fun c9 => ?_)
  · skip
    refine v_aload_n G (decAt dd_LD_word 24 rfl) rfl ?_
    refine v_geta G (decAt dd_LD_word 25 rfl) f_LD_9 ?_
    refine v_aload_n G (decAt dd_LD_word 26 rfl) rfl ?_
    refine v_geti G (decAt dd_LD_word 27 rfl) f_LD_21 ?_
    refine v_ri (y := (nI mm)) hm ?_
    refine v_iload_n G (decAt dd_LD_word 28 rfl) rfl ?_
    refine v_iast G 26 _ (decAt dd_LD_word 29 rfl) (by decide) rfl (by first | with_reducible rfl | with_reducible exact nI_1 _ | with_reducible exact nI_add _ _ | assumption) (by omega) ?_
    refine v_aload_n G (decAt dd_LD_word 30 rfl) rfl ?_
    refine v_dup G (decAt dd_LD_word 31 rfl) rfl ?_
    refine v_geti G (decAt dd_LD_word 32 rfl) f_LD_21 ?_
    refine v_ri (y := (nI mm)) hm ?_
    refine v_iconst G 1 (decAt dd_LD_word 33 rfl) (by decide) ?_
    refine v_iadd G (decAt dd_LD_word 34 rfl) ?_
    refine v_ri (y := (nI (mm + 1))) (nI_1 _) ?_
    refine v_puti G (decAt dd_LD_word 35 rfl) f_LD_21 rfl rfl rfl ?_
    exact v_vret G (decAt dd_LD_word 36 rfl) rfl ⟨rfl, rfl, rfl, rfl, rfl, rfl⟩
  · skip
    exact absurd c9 (fun z => by have := (nI_eq (a := mm) (b := 4096) (by omega) (by omega)).mp z; omega)
