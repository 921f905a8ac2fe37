/-! Better: all passes -/
section VFR
variable {E : Bs} {p : Program} {l : Launch} {e : Env} {R : Room} {s : State} {m : MethodId} {args : Array Value} {below : List Frame} {meth : Method} {c : Code} {cc : ByteArray} {own : String} {nL : Nat} {ret : Option FieldType} {cells slots : Nat} {Q : State → Prop} {pc idx : Nat} {L : List (Option Value)} {S : List Value}
variable {DO DA : Nat → Prop} {H0 : Heap} {ρ : Nat → Nat} {g A : Nat → Nat → Int32} {n : Nat → Nat} {tx : Value}
/-- the picture's temporary number does not matter -/
theorem v_tmp (t : Nat) {ρ' : Nat → Nat} {A' : Nat → Nat → Int32} {n' : Nat → Nat} (hD : ¬ DA t) (ht : ∀ k j, k < 7 → j < 24 → kd k j ≠ t + 1) (h1 : ∀ x, x ≠ t → ρ' x = ρ x) (h2 : ∀ x, x ≠ t → A' x = A x) (h3 : ∀ x, x ≠ t → n' x = n x) (kk : V p l e R s m args below meth c nL (Sy E DO DA H0 ρ' g A' n' tx) cells slots Q pc L S) : V p l e R s m args below meth c nL (Sy E DO DA H0 ρ g A n tx) cells slots Q pc L S :=
  v_X (fun H locs hX => ⟨hX.1.same (fun k hk j hj => fld_rho ht h1 (hX.1.1 k hk).1 (Nat.lt_of_lt_of_le hj (NF_le k (hX.1.1 k hk).1))) (fun i hi => h1 i (fun z => hD (z ▸ hi))) (fun i hi => h3 i (fun z => hD (z ▸ hi))) (fun i hi j _ => by rw [h2 i (fun z => hD (z ▸ hi))]), hX.2⟩) kk
/-- a field gets a new array of zeros -/
theorem v_fresh (G : Gd E p s m args meth c cc own nL ret) (t N : Nat) {k f i : Nat} {atype : ArrayType} {x : Int32} (d : decode cc pc = .ok (.newarray atype, 2)) (d2 : decode cc (pc + 2) = .ok (.putfield idx, 3)) (hw : Cond.arrayClass (newarray.typeOf atype) ∈ lw_tbl) (hty : newarray.typeOf atype = aty (ta t)) (hdf : defaultValue (aty (ta t)) = .int 0) (hD : ¬ DA t) (ht : ∀ k j, k < 7 → j < 24 → kd k j ≠ t + 1) (hx : x = nI N) (hN : N < 2147483648) (hb : N * componentBytes (newarray.typeOf atype) ≤ 536870912) (hc : cells + 1 ≤ R.cells) (hs : slots + N ≤ R.slots)
    (h : FA DO own idx k f i) (hnf : (FT k f).2.2.2 = false) (hn : ∀ a, narrow (TY k f) (.ref a) = .ref a) (hfit : ∀ a, fits (TY k f) (.ref a) = true) (hDi : DA i) (hta : ta t = ta i) (hu : ∀ k', k' < 7 → ∀ j, j < 24 → (kd k' j = i + 1 → k' = k ∧ j = f) ∧ kd k' j ≠ t + 1)
    (kk : ∀ q, V p l e R s m args below meth c nL (Sy E DO DA s.heap (va_up ρ i q) g (va_up A i (fun _ => 0)) (va_up n i N) tx) (cells + 1) (slots + N) Q (pc + 5) L S) : V p l e R s m args below meth c nL (Sy E DO DA s.heap ρ g A n tx) cells slots Q pc L (.int x :: .ref (E.o k) :: S) := by
  refine v_newa G t N d hw hty hdf hD ht hx hN hb hc hs fun q => ?_
  refine v_swap G t d2 h hnf (hn _) (hfit _) (Or.inl hDi) (Or.inr rfl) hta hu ?_
  refine v_drop (DA' := DA) (fun i hi => Or.inl hi) ?_
  have hit : i ≠ t := fun z => hD (z ▸ hDi)
  have key : ∀ {α : Type} (w : Nat → α) (z : α) (x : Nat), x ≠ t → va_up w i z x = swp (va_up w t z) i t x := by
    intro α w z x hx
    by_cases e1 : x = i
    · subst e1; rw [va_up_self]; simp [swp, va_up_self]
    · rw [va_up_ne _ _ e1]; simp [swp, e1, hx]; rw [va_up_ne _ _ hx]
  exact v_tmp t hD ht (key ρ q) (key A _) (key n N) (kk q)
/-- behind an exchange of two fields' arrays -/
theorem v_relab {i j t : Nat} (hij : i ≠ j) (hti : t ≠ i) (htj : t ≠ j) (hDi : DA i) (hDj : DA j) (hDt : ¬ DA t) (hta : ta t = ta i) (ht : ∀ k f, k < 7 → f < 24 → kd k f ≠ t + 1) (kk : V p l e R s m args below meth c nL (Sy E DO DA H0 (swp ρ i j) g (swp A i j) (swp n i j) tx) cells slots Q pc L S) : V p l e R s m args below meth c nL (Sy E DO (fun x => (DA x ∧ x ≠ i) ∨ x = t) H0 (swp (va_up (va_up ρ t (ρ i)) i (ρ j)) j t) g (swp (va_up A t (A i)) j t) (swp (va_up n t (n i)) j t) tx) cells slots Q pc L S := by
  refine v_X (fun H locs hX => ⟨?_, hX.2⟩) kk
  obtain ⟨g1, g2, g3, g4, g5⟩ := hX.1
  have kA : ∀ {α : Type} (w : Nat → α) (x : Nat), DA x → swp w i j x = swp (va_up w t (w i)) j t (if x = i then t else x) := by
    intro α w x hx
    have hxt : x ≠ t := fun z => hDt (z ▸ hx)
    by_cases e1 : x = i
    · subst e1; rw [if_pos rfl]; simp [swp, htj]; rw [va_up_ne _ _ (Ne.symm htj)]
    · rw [if_neg e1]
      by_cases e2 : x = j
      · subst e2; simp [swp, e1, va_up_self]
      · simp [swp, e1, e2, hxt]; rw [va_up_ne _ _ hxt]
  have kr : ∀ x : Nat, x ≠ t → swp ρ i j x = swp (va_up (va_up ρ t (ρ i)) i (ρ j)) j t x := by
    intro x hxt
    by_cases e1 : x = i
    · subst e1; simp [swp, hij, hxt, va_up_self]
    · by_cases e2 : x = j
      · subst e2; simp [swp, e1]; rw [va_up_ne _ _ hti, va_up_self]
      · simp [swp, e1, e2, hxt]; rw [va_up_ne _ _ e1, va_up_ne _ _ hxt]
  have kr2 : ∀ x, DA x → swp ρ i j x = swp (va_up (va_up ρ t (ρ i)) i (ρ j)) j t (if x = i then t else x) := by
    intro x hx
    by_cases e1 : x = i
    · subst e1; rw [if_pos rfl]; simp [swp, htj]; rw [va_up_ne _ _ (Ne.symm hij), va_up_ne _ _ (Ne.symm htj)]
    · rw [if_neg e1]; exact kr x (fun z => hDt (z ▸ hx))
  have inD : ∀ x, DA x → (fun x => (DA x ∧ x ≠ i) ∨ x = t) (if x = i then t else x) := by
    intro x hx
    by_cases e1 : x = i
    · rw [if_pos e1]; exact Or.inr rfl
    · rw [if_neg e1]; exact Or.inl ⟨hx, e1⟩
  refine ⟨fun k hk => ⟨(g1 k hk).1, (g1 k hk).2.1.to fun f hf => (fld_rho ht kr (g1 k hk).1 (Nat.lt_of_lt_of_le hf (NF_le k (g1 k hk).1))).symm, (g1 k hk).2.2⟩, fun x hx => ?_, g3, fun x y hx hy hxy => ?_, fun k x hk hx => ?_⟩
  · rw [kr2 x hx, kA A x hx, kA n x hx]
    have := g2 _ (inD x hx)
    rwa [show ta (if x = i then t else x) = ta x from by by_cases e1 : x = i <;> simp [e1, hta]] at this
  · rw [kr2 x hx, kr2 y hy] at hxy
    have := g4 _ _ (inD x hx) (inD y hy) hxy
    by_cases a1 : x = i <;> by_cases a2 : y = i
    · rw [a1, a2]
    · rw [if_pos a1, if_neg a2] at this; exact absurd (this ▸ hy) hDt
    · rw [if_neg a1, if_pos a2] at this; exact absurd (this ▸ hx) hDt
    · rwa [if_neg a1, if_neg a2] at this
  · rw [kr2 x hx]
    exact g5 k _ hk (inD x hx)
end VFR
theorem kdT : ∀ k, k < 7 → ∀ j, j < 24 → kd k j ≠ 41 ∧ kd k j ≠ 42 := by decide +kernel
theorem kd40 : ∀ k j, k < 7 → j < 24 → kd k j ≠ 40 + 1 := fun k j hk hj => (kdT k hk j hj).1
theorem kd41 : ∀ k j, k < 7 → j < 24 → kd k j ≠ 41 + 1 := fun k j hk hj => (kdT k hk j hj).2
/-- codes that passes come to -/
noncomputable def pit (c : Cod) : Nat → Cod
  | 0 => c
  | N + 1 => pss (pit c N)
def Opts (c c' : Cod) : Prop := ∃ N, c' = pit c N
theorem Opts.rfl (c : Cod) : Opts c c := ⟨0, Eq.refl _⟩
theorem Opts.step {c c' : Cod} (h : Opts c c') : Opts c (pss c') := by
  obtain ⟨N, h⟩ := h
  exact ⟨N + 1, by rw [h, pit]⟩
theorem CdI.cpy {f f' : Nat → Int32} {c : Cod} (h : CdI f c) : CdI (va_cpy f f' 0 0 (2 * c.length)) c := by
  intro i n k hi
  have hl := (List.getElem?_eq_some_iff.mp hi).1
  have := h i n k hi
  have e : ∀ j, j < 2 * c.length → va_cpy f f' 0 0 (2 * c.length) j = f j := fun j hj => by
    unfold va_cpy
    rw [if_pos (by omega)]
    congr 1
    omega
  rw [e _ (by omega), e _ (by omega)]
  exact this
/-- what all passes leave of the rest -/
def AllQ (g A : Nat → Nat → Int32) (n : Nat → Nat) (g' A' : Nat → Nat → Int32) (n' : Nat → Nat) : Prop := (∀ k f, ¬ (k = 1 ∧ f = 1) → ¬ (k = 2 ∧ (f = 2 ∨ f = 3 ∨ f = 7)) → g' k f = g k f) ∧ (∀ i, ¬ (11 ≤ i ∧ i ≤ 16) → A' i = A i) ∧ (∀ i, i ≠ 12 → i ≠ 13 → i ≠ 15 → n' i = n i) ∧ n' 12 = 256 ∧ n' 13 = 256 ∧ n' 15 = 200

set_option maxHeartbeats 4000000 in
theorem c_BT_all (l : Launch) {E : Bs} (hE : Hb E) {ρ : Nat → Nat} {g A : Nat → Nat → Int32} {n : Nat → Nat} {tx : Value} {c : Cod} (hI : ∀ c', Opts c c' → LabC c' ∧ 0 < c'.length) (hlen : c.length ≤ 64) (hb12 : n 12 = 256) (hb13 : n 13 = 256) (hb14 : n 14 = 256) (hb15 : n 15 = 64 ∨ n 15 = 200) (hb16 : n 16 = 256) (hb11 : n 11 = 1000) (hm : g 1 1 = nI (2 * c.length)) (hlb : g 1 2 = nI 100) (hC : CdI (A 11) c) : CW l E DC AC y_BT_all b_BT_all 4 none ({ frames := 4, cells := 1, slots := 200, locals := 91 } : Room) [.ref (E.o 2), .ref (E.o 1)] ρ g A n tx (fun r ρ' g' A' n' tx' => r = none ∧ ∃ c1, Opts c c1 ∧ c1.length ≤ (pss c1).length ∧ CdI (A' 11) (pss c1) ∧ g' 1 1 = nI (2 * (pss c1).length) ∧ AllQ g A n g' A' n' ∧ tx' = tx) := by
  refine CW.start [some (.ref (E.o 2)), some (.ref (E.o 1)), none, none] hE (by decide) (Nat.le_of_ble_eq_true rfl) rfl ?_
  intro p e s m args below meth c1 G
  have J176 : ∀ (ρ1 : Nat → Nat) (g1 A1 : Nat → Nat → Int32) (n1 : Nat → Nat) (cc : Cod) (x2 x3 : Option Value), (∀ k f, ¬ (k = 2 ∧ (f = 2 ∨ f = 3 ∨ f = 7)) → g1 k f = g k f) → (∀ i, ¬ (12 ≤ i ∧ i ≤ 16) → A1 i = A i) → (∀ i, i ≠ 12 → i ≠ 13 → i ≠ 15 → n1 i = n i) → n1 12 = 256 → n1 13 = 256 → n1 15 = 200 →  Opts c cc → cc.length ≤ (pss cc).length → (pss cc).length ≤ 64 → g1 2 2 = nI (2 * (pss cc).length) → CdI (A1 12) (pss cc) → V p l e ({ frames := 4, cells := 1, slots := 200, locals := 91 } : Room) s m args below meth c1 4 (Sy E DC AC s.heap ρ1 g1 A1 n1 tx) 1 200 (MQ below (QW E DC AC (fun r ρ' g' A' n' tx' => r = none ∧ ∃ c1, Opts c c1 ∧ c1.length ≤ (pss c1).length ∧ CdI (A' 11) (pss c1) ∧ g' 1 1 = nI (2 * (pss c1).length) ∧ AllQ g A n g' A' n' ∧ tx' = tx)) args s 1 200 E.F) 176 [some (.ref (E.o 2)), some (.ref (E.o 1)), x2, x3] [] := by
    intro ρ1 g1 A1 n1 cc x2 x3 hfg hfA hfn h12 h13 h15 hO hle hl hN hC1
    refine v_aload_n G (decAt dd_BT_all 97 rfl) rfl ?_
    refine v_geta G (decAt dd_BT_all 98 rfl) f_BT_9 ?_
    refine v_iconst G 0 (decAt dd_BT_all 99 rfl) (by decide) ?_
    refine v_aload_n G (decAt dd_BT_all 100 rfl) rfl ?_
    refine v_geta G (decAt dd_BT_all 101 rfl) f_BT_37 ?_
    refine v_iconst G 0 (decAt dd_BT_all 102 rfl) (by decide) ?_
    refine v_aload_n G (decAt dd_BT_all 103 rfl) rfl ?_
    refine v_geti G (decAt dd_BT_all 104 rfl) f_BT_46 ?_
    refine v_ri (y := (nI (2 * (pss cc).length))) hN ?_
    refine v_copy G 12 11 (2 * (pss cc).length) (decAt dd_BT_all 105 rfl) tm_314 (by decide) (by decide) rfl rfl rfl (by omega) (by rw [hfn 11 (by decide) (by decide) (by decide)]; omega) (by decide) (by decide) ?_
    refine v_aload_n G (decAt dd_BT_all 106 rfl) rfl ?_
    refine v_aload_n G (decAt dd_BT_all 107 rfl) rfl ?_
    refine v_geti G (decAt dd_BT_all 108 rfl) f_BT_46 ?_
    refine v_ri (y := (nI (2 * (pss cc).length))) hN ?_
    refine v_puti G (decAt dd_BT_all 109 rfl) f_BT_28 rfl rfl rfl ?_
    refine v_vret G (decAt dd_BT_all 110 rfl) rfl ⟨rfl, cc, hO, hle, ?_, up2_self, ⟨fun k f h1 h2 => ?_, fun i hi => ?_, hfn, h12, h13, h15⟩, rfl⟩
    · rw [va_up_self]; exact hC1.cpy
    · rw [up2_ne h1]; exact hfg k f h2
    · rw [va_up_ne _ _ (by omega)]; exact hfA i (by omega)
  have J113 : ∀ (μ : Nat) (ρ1 : Nat → Nat) (g1 A1 : Nat → Nat → Int32) (n1 : Nat → Nat) (cc : Cod) (x3 : Option Value), (∀ k f, ¬ (k = 2 ∧ (f = 2 ∨ f = 3 ∨ f = 7)) → g1 k f = g k f) → (∀ i, ¬ (12 ≤ i ∧ i ≤ 16) → A1 i = A i) → (∀ i, i ≠ 12 → i ≠ 13 → i ≠ 15 → n1 i = n i) → n1 12 = 256 → n1 13 = 256 → n1 15 = 200 →  Opts c cc → cc.length ≤ 64 → g1 2 2 = nI (2 * cc.length) → CdI (A1 12) cc → cc.length < μ → V p l e ({ frames := 4, cells := 1, slots := 200, locals := 91 } : Room) s m args below meth c1 4 (Sy E DC AC s.heap ρ1 g1 A1 n1 tx) 1 200 (MQ below (QW E DC AC (fun r ρ' g' A' n' tx' => r = none ∧ ∃ c1, Opts c c1 ∧ c1.length ≤ (pss c1).length ∧ CdI (A' 11) (pss c1) ∧ g' 1 1 = nI (2 * (pss c1).length) ∧ AllQ g A n g' A' n' ∧ tx' = tx)) args s 1 200 E.F) 113 [some (.ref (E.o 2)), some (.ref (E.o 1)), some (.int 1), x3] [] := by
    intro μ
    induction μ with
    | zero => intro ρ1 g1 A1 n1 cc x3 hfg hfA hfn h12 h13 h15 hO hl hN hC1 hμ; exact absurd hμ (by omega)
    | succ μ ih =>
      intro ρ1 g1 A1 n1 cc x3 hfg hfA hfn h12 h13 h15 hO hl hN hC1 hμ
      obtain ⟨hL, hc0⟩ := hI cc hO
      have hBN : BN n1 := ⟨h12, h13, (hfn 14 (by decide) (by decide) (by decide)).trans hb14, by omega, (hfn 16 (by decide) (by decide) (by decide)).trans hb16⟩
      have hpl := pss_len cc
      have hps : (pss1 (liv cc) cc 0 []).length = (pss cc).length := by unfold pss; rw [List.length_reverse]
      refine v_iload_n G (decAt dd_BT_all 64 rfl) rfl ?_
      refine v_if_eq G 176 (decAt dd_BT_all 65 rfl) (by decide) (fun c114 => absurd c114 (by decide)) (fun _ => ?_)
      refine v_aload_n G (decAt dd_BT_all 66 rfl) rfl ?_
      refine v_iconst G 0 (decAt dd_BT_all 67 rfl) (by decide) ?_
      refine v_puti G (decAt dd_BT_all 68 rfl) f_BT_49 rfl rfl rfl ?_
      refine v_aload_n G (decAt dd_BT_all 69 rfl) rfl ?_
      refine v_callVv0 G (As := []) (decAt dd_BT_all 70 rfl) k_BT_50 (c_BT_mark l hE (c := cc) (g := up2 g1 2 3 0) (A := A1) hBN hl hc0 ((up2_ne (by decide)).trans hN) hC1 hL) (by decide) rfl rfl rfl (Nat.le_of_ble_eq_true rfl) (by decide) rfl rfl (by decide) ?_
      rintro ρ9 g9 A2 n9 tx9 ⟨hD, e1, e2, hfr2, e3, e4⟩
      replace e1 := e1.symm; subst e1; subst e2; replace e3 := e3.symm; subst e3; replace e4 := e4.symm; subst e4
      refine v_aload_n G (decAt dd_BT_all 71 rfl) rfl ?_
      refine v_callVv0 G (As := []) (decAt dd_BT_all 72 rfl) k_BT_53 (c_BT_pass l hE (c := cc) (g := up2 (up2 g1 2 3 0) 2 7 0) (A := A2) hBN hl (((up2_ne (by decide)).trans (up2_ne (by decide))).trans hN) (by rw [hfr2 12 (by decide) (by decide) (by decide)]; exact hC1) hL ((up2_ne (by decide)).trans up2_self) hD) (by decide) rfl rfl rfl (Nat.le_of_ble_eq_true rfl) (by decide) rfl rfl (by decide) ?_
      rintro ρ9 g9 A3 n9 tx9 ⟨hT, e1, e2, hfr3, e3, e4⟩
      replace e1 := e1.symm; subst e1; replace e3 := e3.symm; subst e3; replace e4 := e4.symm; subst e4
      rw [hps] at e2
      have hg2 : g9 2 2 = nI (2 * cc.length) := by rw [e2]; exact (((up2_ne (by decide)).trans (up2_ne (by decide))).trans (up2_ne (by decide))).trans hN
      have hg3 : g9 2 3 = nI (2 * (pss cc).length) := by rw [e2]; exact up2_self
      have hfg9 : ∀ k f, ¬ (k = 2 ∧ (f = 2 ∨ f = 3 ∨ f = 7)) → g9 k f = g k f := fun k f h => by rw [e2, up2_ne (by omega), up2_ne (by omega), up2_ne (by omega)]; exact hfg k f h
      have hfA3 : ∀ i, ¬ (12 ≤ i ∧ i ≤ 16) → A3 i = A i := fun i h => by rw [hfr3 i (by omega), hfr2 i (by omega) (by omega) (by omega)]; exact hfA i h
      have hC3 : CdI (A3 13) (pss cc) := hT.cd
      refine v_aload_n G (decAt dd_BT_all 73 rfl) rfl ?_
      refine v_geti G (decAt dd_BT_all 74 rfl) f_BT_49 ?_
      refine v_ri (y := (nI (2 * (pss cc).length))) hg3 ?_
      refine v_aload_n G (decAt dd_BT_all 75 rfl) rfl ?_
      refine v_geti G (decAt dd_BT_all 76 rfl) f_BT_46 ?_
      refine v_ri (y := (nI (2 * cc.length))) hg2 ?_
      refine v_icmp_ge G 145 (decAt dd_BT_all 77 rfl) (by decide) (fun c138 => ?_) (fun c138 => ?_)
      · skip
        refine v_iconst G 0 (decAt dd_BT_all 80 rfl) (by decide) ?_
        refine v_istore_2 G (decAt dd_BT_all 81 rfl) (by decide) rfl ?_
        refine v_aload_n G (decAt dd_BT_all 82 rfl) rfl ?_
        refine v_geta G (decAt dd_BT_all 83 rfl) f_BT_9 ?_
        refine v_astore_3 G (decAt dd_BT_all 84 rfl) (by decide) rfl ?_
        refine v_aload_n G (decAt dd_BT_all 85 rfl) rfl ?_
        refine v_aload_n G (decAt dd_BT_all 86 rfl) rfl ?_
        refine v_geta G (decAt dd_BT_all 87 rfl) f_BT_15 ?_
        refine v_take G 40 13 (decAt dd_BT_all 88 rfl) f_BT_9 rfl rfl rfl (by decide) (by decide) rfl (by decide +kernel) ?_
        refine v_aload_n G (decAt dd_BT_all 89 rfl) rfl ?_
        refine v_aload_n G (decAt dd_BT_all 90 rfl) rfl ?_
        refine v_S (S' := [.ref ((va_up (va_up ρ1 40 (ρ1 12)) 12 (ρ1 13)) 40), .ref (E.o 2)]) (by rw [va_up_ne _ _ (by decide), va_up_self]) ?_
        refine v_swap G 40 (decAt dd_BT_all 91 rfl) f_BT_15 rfl rfl rfl (Or.inl (by decide)) (Or.inr rfl) rfl (by decide +kernel) ?_
        refine v_relab (i := 12) (j := 13) (t := 40) (by decide) (by decide) (by decide) (by decide) (by decide) (by decide) rfl kd40 ?_
        refine v_aload_n G (decAt dd_BT_all 92 rfl) rfl ?_
        refine v_aload_n G (decAt dd_BT_all 93 rfl) rfl ?_
        refine v_geti G (decAt dd_BT_all 94 rfl) f_BT_49 ?_
        refine v_ri (y := (nI (2 * (pss cc).length))) hg3 ?_
        refine v_puti G (decAt dd_BT_all 95 rfl) f_BT_46 rfl rfl rfl ?_
        refine v_goto G 113 (decAt dd_BT_all 96 rfl) (by decide) ?_
        skip
        refine v_iload_n G (decAt dd_BT_all 64 rfl) rfl ?_
        refine v_if_eq G 176 (decAt dd_BT_all 65 rfl) (by decide) (fun _ => ?_) (fun c114 => absurd c114 (by decide))
        exact J176 _ _ _ _ cc _ _ (fun k f h => (up2_ne (by omega)).trans (hfg9 k f h)) (fun i h => by rw [show swp A3 12 13 i = A3 i from by unfold swp; rw [if_neg (by omega), if_neg (by omega)]]; exact hfA3 i h) (fun i a1 a2 a3 => by rw [show swp n1 12 13 i = n1 i from by unfold swp; rw [if_neg a1, if_neg a2]]; exact hfn i a1 a2 a3) h13 h12 h15 hO (by have := (nI_leI (a := 2 * cc.length) (b := 2 * (pss cc).length) (by omega) (by omega)).mp c138; omega) (by omega) up2_self hC3
      · skip
        refine v_iconst G 1 (decAt dd_BT_all 78 rfl) (by decide) ?_
        refine v_goto G 146 (decAt dd_BT_all 79 rfl) (by decide) ?_
        refine v_istore_2 G (decAt dd_BT_all 81 rfl) (by decide) rfl ?_
        refine v_aload_n G (decAt dd_BT_all 82 rfl) rfl ?_
        refine v_geta G (decAt dd_BT_all 83 rfl) f_BT_9 ?_
        refine v_astore_3 G (decAt dd_BT_all 84 rfl) (by decide) rfl ?_
        refine v_aload_n G (decAt dd_BT_all 85 rfl) rfl ?_
        refine v_aload_n G (decAt dd_BT_all 86 rfl) rfl ?_
        refine v_geta G (decAt dd_BT_all 87 rfl) f_BT_15 ?_
        refine v_take G 40 13 (decAt dd_BT_all 88 rfl) f_BT_9 rfl rfl rfl (by decide) (by decide) rfl (by decide +kernel) ?_
        refine v_aload_n G (decAt dd_BT_all 89 rfl) rfl ?_
        refine v_aload_n G (decAt dd_BT_all 90 rfl) rfl ?_
        refine v_S (S' := [.ref ((va_up (va_up ρ1 40 (ρ1 12)) 12 (ρ1 13)) 40), .ref (E.o 2)]) (by rw [va_up_ne _ _ (by decide), va_up_self]) ?_
        refine v_swap G 40 (decAt dd_BT_all 91 rfl) f_BT_15 rfl rfl rfl (Or.inl (by decide)) (Or.inr rfl) rfl (by decide +kernel) ?_
        refine v_relab (i := 12) (j := 13) (t := 40) (by decide) (by decide) (by decide) (by decide) (by decide) (by decide) rfl kd40 ?_
        refine v_aload_n G (decAt dd_BT_all 92 rfl) rfl ?_
        refine v_aload_n G (decAt dd_BT_all 93 rfl) rfl ?_
        refine v_geti G (decAt dd_BT_all 94 rfl) f_BT_49 ?_
        refine v_ri (y := (nI (2 * (pss cc).length))) hg3 ?_
        refine v_puti G (decAt dd_BT_all 95 rfl) f_BT_46 rfl rfl rfl ?_
        refine v_goto G 113 (decAt dd_BT_all 96 rfl) (by decide) ?_
        exact ih _ _ _ _ (pss cc) _ (fun k f h => (up2_ne (by omega)).trans (hfg9 k f h)) (fun i h => by rw [show swp A3 12 13 i = A3 i from by unfold swp; rw [if_neg (by omega), if_neg (by omega)]]; exact hfA3 i h) (fun i a1 a2 a3 => by rw [show swp n1 12 13 i = n1 i from by unfold swp; rw [if_neg a1, if_neg a2]]; exact hfn i a1 a2 a3) h13 h12 h15 (hO.step) (by omega) up2_self hC3 (by have := (nI_ltI (a := 2 * (pss cc).length) (b := 2 * cc.length) (by omega) (by omega)).mp (by first | exact c138 | exact Int32.not_le.mp c138); omega)
  refine v_aload_n G (decAt dd_BT_all 0 rfl) rfl ?_
  refine v_geta G (decAt dd_BT_all 1 rfl) f_BT_9 ?_
  refine v_alen G 12 (decAt dd_BT_all 2 rfl) (by decide) ?_
  refine v_ri (y := (nI 256)) (by rw [hb12]) ?_
  refine v_aload_n G (decAt dd_BT_all 3 rfl) rfl ?_
  refine v_geti G (decAt dd_BT_all 4 rfl) f_BT_28 ?_
  refine v_ri (y := (nI (2 * c.length))) hm ?_
  refine v_iconst G 2 (decAt dd_BT_all 5 rfl) (by decide) ?_
  refine v_iadd G (decAt dd_BT_all 6 rfl) ?_
  refine v_ri (y := (nI (2 * c.length + 2))) (nI_add (2 * c.length) 2) ?_
  refine v_icmp_ge G 62 (decAt dd_BT_all 7 rfl) (by decide) (fun c11 => ?_) (fun c11 => ?_)
  · skip
    refine v_aload_n G (decAt dd_BT_all 36 rfl) rfl ?_
    refine v_geta G (decAt dd_BT_all 37 rfl) f_BT_22 ?_
    refine v_alen G 15 (decAt dd_BT_all 38 rfl) (by decide) ?_
    rcases hb15 with hb15 | hb15
    · skip
      refine v_ri (y := nI 64) (by rw [hb15]) ?_
      refine v_aload_n G (decAt dd_BT_all 39 rfl) rfl ?_
      refine v_geti G (decAt dd_BT_all 40 rfl) f_BT_34 ?_
      refine v_ri (y := (nI 100)) hlb ?_
      refine v_icmp_ge G 86 (decAt dd_BT_all 41 rfl) (by decide) (fun c71 => absurd c71 (by decide)) (fun _ => ?_)
      refine v_aload_n G (decAt dd_BT_all 42 rfl) rfl ?_
      refine v_iconst G 2 (decAt dd_BT_all 43 rfl) (by decide) ?_
      refine v_aload_n G (decAt dd_BT_all 44 rfl) rfl ?_
      refine v_geti G (decAt dd_BT_all 45 rfl) f_BT_34 ?_
      refine v_ri (y := (nI 100)) hlb ?_
      refine v_imul G (decAt dd_BT_all 46 rfl) ?_
      refine v_ri (y := (nI 200)) rfl ?_
      refine v_fresh G 40 200 (decAt dd_BT_all 47 rfl) (decAt dd_BT_all 48 rfl) tm_51 rfl rfl (by decide) kd40 rfl (by decide) (by decide) (by decide) (by decide) f_BT_22 rfl (fun _ => rfl) (fun _ => rfl) (by decide) rfl (by decide +kernel) fun q => ?_
      refine v_aload_n G (decAt dd_BT_all 49 rfl) rfl ?_
      refine v_geta G (decAt dd_BT_all 50 rfl) f_BT_37 ?_
      refine v_iconst G 0 (decAt dd_BT_all 51 rfl) (by decide) ?_
      refine v_aload_n G (decAt dd_BT_all 52 rfl) rfl ?_
      refine v_geta G (decAt dd_BT_all 53 rfl) f_BT_9 ?_
      refine v_iconst G 0 (decAt dd_BT_all 54 rfl) (by decide) ?_
      refine v_aload_n G (decAt dd_BT_all 55 rfl) rfl ?_
      refine v_geti G (decAt dd_BT_all 56 rfl) f_BT_28 ?_
      refine v_ri (y := (nI (2 * c.length))) hm ?_
      refine v_copy G 11 12 (2 * c.length) (decAt dd_BT_all 57 rfl) tm_314 (by decide) (by decide) rfl rfl rfl (by rw [va_up_ne _ _ (by decide)]; omega) (by rw [va_up_ne _ _ (by decide)]; omega) (by decide) (by decide) ?_
      refine v_aload_n G (decAt dd_BT_all 58 rfl) rfl ?_
      refine v_aload_n G (decAt dd_BT_all 59 rfl) rfl ?_
      refine v_geti G (decAt dd_BT_all 60 rfl) f_BT_28 ?_
      refine v_ri (y := (nI (2 * c.length))) hm ?_
      refine v_puti G (decAt dd_BT_all 61 rfl) f_BT_46 rfl rfl rfl ?_
      refine v_iconst G 1 (decAt dd_BT_all 62 rfl) (by decide) ?_
      refine v_istore_2 G (decAt dd_BT_all 63 rfl) (by decide) rfl ?_
      exact J113 _ _ _ _ _ c _ (fun k f h => up2_ne (by omega)) (fun i h => by rw [va_up_ne _ _ (by omega), va_up_ne _ _ (by omega)]) (fun i _ _ h => va_up_ne _ _ h) (by rw [va_up_ne _ _ (by decide)]; exact hb12) (by rw [va_up_ne _ _ (by decide)]; exact hb13) (va_up_self _ _ _) (Opts.rfl c) hlen up2_self (by rw [va_up_self, va_up_ne _ _ (by decide)]; exact hC.cpy) (Nat.lt_succ_self _)
    · skip
      refine v_ri (y := nI 200) (by rw [hb15]) ?_
      refine v_aload_n G (decAt dd_BT_all 39 rfl) rfl ?_
      refine v_geti G (decAt dd_BT_all 40 rfl) f_BT_34 ?_
      refine v_ri (y := (nI 100)) hlb ?_
      refine v_icmp_ge G 86 (decAt dd_BT_all 41 rfl) (by decide) (fun _ => ?_) (fun c71 => absurd c71 (by decide))
      refine v_room 1 200 (by decide) (by decide) ?_
      refine v_aload_n G (decAt dd_BT_all 49 rfl) rfl ?_
      refine v_geta G (decAt dd_BT_all 50 rfl) f_BT_37 ?_
      refine v_iconst G 0 (decAt dd_BT_all 51 rfl) (by decide) ?_
      refine v_aload_n G (decAt dd_BT_all 52 rfl) rfl ?_
      refine v_geta G (decAt dd_BT_all 53 rfl) f_BT_9 ?_
      refine v_iconst G 0 (decAt dd_BT_all 54 rfl) (by decide) ?_
      refine v_aload_n G (decAt dd_BT_all 55 rfl) rfl ?_
      refine v_geti G (decAt dd_BT_all 56 rfl) f_BT_28 ?_
      refine v_ri (y := (nI (2 * c.length))) hm ?_
      refine v_copy G 11 12 (2 * c.length) (decAt dd_BT_all 57 rfl) tm_314 (by decide) (by decide) rfl rfl rfl (by omega) (by omega) (by decide) (by decide) ?_
      refine v_aload_n G (decAt dd_BT_all 58 rfl) rfl ?_
      refine v_aload_n G (decAt dd_BT_all 59 rfl) rfl ?_
      refine v_geti G (decAt dd_BT_all 60 rfl) f_BT_28 ?_
      refine v_ri (y := (nI (2 * c.length))) hm ?_
      refine v_puti G (decAt dd_BT_all 61 rfl) f_BT_46 rfl rfl rfl ?_
      refine v_iconst G 1 (decAt dd_BT_all 62 rfl) (by decide) ?_
      refine v_istore_2 G (decAt dd_BT_all 63 rfl) (by decide) rfl ?_
      exact J113 _ _ _ _ _ c _ (fun k f h => up2_ne (by omega)) (fun i h => va_up_ne _ _ (by omega)) (fun i _ _ _ => rfl) hb12 hb13 hb15 (Opts.rfl c) hlen up2_self (by rw [va_up_self]; exact hC.cpy) (Nat.lt_succ_self _)
  · skip
    exact absurd (nI_le (a := 2 * c.length + 2) (b := 256) (by omega) (by omega)) c11
