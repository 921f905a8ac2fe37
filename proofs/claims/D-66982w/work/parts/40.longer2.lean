/-! Loader.longer -/
section VPA
variable {E : Bs} {p : Program} {l : Launch} {e : Env} {R : Room} {s : State} {m : MethodId} {args : Array Value} {below : List Frame} {meth : Method} {c : Code} {cc : ByteArray} {own : String} {nL : Nat} {ret : Option FieldType} {cells slots : Nat} {Q : State → Prop} {pc idx : Nat} {L : List (Option Value)} {S : List Value}
variable {DO DA : Nat → Prop} {H0 : Heap} {ρ : Nat → Nat} {g A : Nat → Nat → Int32} {n : Nat → Nat} {tx : Value}
/-- a field takes the array that it has -/
theorem v_puta (G : Gd E p s m args meth c cc own nL ret) {k f i : Nat} (d : decode cc pc = .ok (.putfield idx, 3)) (h : FA DO own idx k f i) (hnf : (FT k f).2.2.2 = false) (hn : narrow (TY k f) (.ref (ρ i)) = .ref (ρ i)) (hfit : fits (TY k f) (.ref (ρ i)) = true)
    (kk : V p l e R s m args below meth c nL (Sy E DO DA H0 ρ g A n tx) cells slots Q (pc + 3) L S) : V p l e R s m args below meth c nL (Sy E DO DA H0 ρ g A n tx) cells slots Q pc L (.ref (ρ i) :: .ref (E.o k) :: S) := by
  intro H locs ls hX hl
  obtain ⟨h1, h2, h3, h5, h4⟩ := h
  obtain ⟨hk, hO, hFk⟩ := hX.1.1 k h4
  refine w_put G hk h2 hnf h1 hO hn hfit d fun H' ix hO' hz hq => kk H' _ ls ⟨hX.1.obj h4 (hO'.to fun j _ => ?_) hq fun k' hk' j => rfl, hX.2.put hz hq hFk⟩ hl
  by_cases ej : j = f
  · subst ej
    rw [if_pos rfl, fld_a h3 h5]
  · rw [if_neg ej]
end VPA

set_option maxHeartbeats 4000000 in
theorem c_LD_longer_s (l : Launch) {E : Bs} (hE : Hb E) {ρ : Nat → Nat} {g A : Nat → Nat → Int32} {n : Nat → Nat} {tx : Value} {i k : Nat} (hi : AC i) (hta : ta i = 0) (hk : k < n i) (hb : n i < 2147483648) : CX l E DC AC AC y_LD_longer b_LD_longer 3 (some (.array .int)) ({ frames := 1, cells := 0, slots := 0, locals := 60 } : Room) [.ref (ρ i), .int (nI k)] ρ g A n tx (fun r ρ' g' A' n' tx' => r = some (.ref (ρ i)) ∧ ρ' = ρ ∧ g' = g ∧ A' = A ∧ n' = n ∧ tx' = tx) := by
  refine CX.start [some (.ref (ρ i)), some (.int (nI k)), none] hE (by decide) (Nat.le_of_ble_eq_true rfl) rfl ?_
  intro p e s m args below meth c G
  refine v_iload_n G (decAt dd_LD_longer 0 rfl) rfl ?_
  refine v_aload_n G (decAt dd_LD_longer 1 rfl) rfl ?_
  refine v_alen G i (decAt dd_LD_longer 2 rfl) hi ?_
  refine v_icmp_ge G 8 (decAt dd_LD_longer 3 rfl) (by decide) (fun c3 => ?_) (fun c3 => ?_)
  · skip
    exact absurd c3 (nI_ge hk hb)
  · skip
    refine v_aload_n G (decAt dd_LD_longer 4 rfl) rfl ?_
    exact v_aret G (decAt dd_LD_longer 5 rfl) rfl (Or.inr ⟨_, rfl⟩) ⟨rfl, rfl, rfl, rfl, rfl, rfl⟩
set_option maxHeartbeats 4000000 in
theorem c_LD_longer_g (l : Launch) {E : Bs} (hE : Hb E) {ρ : Nat → Nat} {g A : Nat → Nat → Int32} {n : Nat → Nat} {tx : Value} {i k : Nat} (hi : AC i) (hta : ta i = 0) (hk : n i ≤ k) (hb : k < 10000) : CX l E DC AC (fun x => AC x ∨ x = 40) y_LD_longer b_LD_longer 3 (some (.array .int)) ({ frames := 1, cells := 1, slots := 2 * k, locals := 60 } : Room) [.ref (ρ i), .int (nI k)] ρ g A n tx (fun r ρ' g' A' n' tx' => ∃ q, r = some (.ref q) ∧ ρ' = va_up ρ 40 q ∧ g' = g ∧ A' = va_up A 40 (va_cpy (A i) (fun _ => 0) 0 0 (n i)) ∧ n' = va_up n 40 (2 * k) ∧ tx' = tx) := by
  have hi40 : i ≠ 40 := fun z => absurd (show AC 40 from z ▸ hi) (by decide)
  refine CX.start [some (.ref (ρ i)), some (.int (nI k)), none] hE (by decide) (Nat.le_of_ble_eq_true rfl) rfl ?_
  intro p e s m args below meth c G
  refine v_iload_n G (decAt dd_LD_longer 0 rfl) rfl ?_
  refine v_aload_n G (decAt dd_LD_longer 1 rfl) rfl ?_
  refine v_alen G i (decAt dd_LD_longer 2 rfl) hi ?_
  refine v_icmp_ge G 8 (decAt dd_LD_longer 3 rfl) (by decide) (fun c3 => ?_) (fun c3 => ?_)
  · skip
    refine v_iconst G 2 (decAt dd_LD_longer 6 rfl) (by decide) ?_
    refine v_iload_n G (decAt dd_LD_longer 7 rfl) rfl ?_
    refine v_imul G (decAt dd_LD_longer 8 rfl) ?_
    refine v_ri (y := (nI (2 * k))) (nI_dbl k) ?_
    refine v_newa G 40 (2 * k) (decAt dd_LD_longer 9 rfl) tm_51 rfl rfl (by decide) kd40 rfl (by omega) (by show 2 * k * 4 ≤ _; omega) (by show 0 + 1 ≤ 1; omega) (by show 0 + 2 * k ≤ 2 * k; omega) fun q => ?_
    rw [va_up_self]
    refine v_astore_2 G (decAt dd_LD_longer 10 rfl) (by decide) rfl ?_
    refine v_aload_n G (decAt dd_LD_longer 11 rfl) rfl ?_
    refine v_iconst G 0 (decAt dd_LD_longer 12 rfl) (by decide) ?_
    refine v_aload_n G (decAt dd_LD_longer 13 rfl) rfl ?_
    refine v_iconst G 0 (decAt dd_LD_longer 14 rfl) (by decide) ?_
    refine v_aload_n G (decAt dd_LD_longer 15 rfl) rfl ?_
    refine v_S (S' := [.ref (va_up ρ 40 q i), .int 0, .ref q, .int 0, .ref (ρ i)]) (by rw [va_up_ne _ _ hi40]) ?_
    refine v_alen G i (decAt dd_LD_longer 16 rfl) (Or.inl hi) ?_
    refine v_ri (y := nI (n i)) (by rw [va_up_ne _ _ hi40]) ?_
    refine v_S (S' := [.int (nI (n i)), .int 0, .ref (va_up ρ 40 q 40), .int 0, .ref (va_up ρ 40 q i)]) (by rw [va_up_self, va_up_ne _ _ hi40]) ?_
    refine v_copy G i 40 (n i) (decAt dd_LD_longer 17 rfl) tm_369 (Or.inl hi) (Or.inr rfl) hta rfl rfl (by rw [va_up_ne _ _ hi40]; exact Nat.le_refl _) (by rw [va_up_self]; omega) (Nat.le_of_ble_eq_true rfl) (Nat.le_of_ble_eq_true rfl) ?_
    refine v_aload_n G (decAt dd_LD_longer 18 rfl) rfl ?_
    refine v_room 1 (2 * k) (Nat.le_refl _) (by omega) ?_
    exact v_aret G (decAt dd_LD_longer 19 rfl) rfl (Or.inr ⟨_, rfl⟩) ⟨q, rfl, rfl, rfl, by rw [va_up_self, va_up_ne _ _ hi40, va_up_up], rfl, rfl⟩
  · skip
    exact absurd (nI_le hk (by omega)) c3
