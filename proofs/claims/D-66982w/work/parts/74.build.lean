/-! the class: build -/
/-- lengths of the class's arrays, between calls -/
def CNs (n : Nat → Nat) : Prop := RN n ∧ n 10 = 100 ∧ n 11 = 1000 ∧ n 12 = 256 ∧ n 13 = 256 ∧ n 14 = 256 ∧ (n 15 = 64 ∨ n 15 = 200) ∧ n 16 = 256 ∧ n 17 = 64 ∧ n 18 = 64 ∧ (n 19 = 64 ∨ n 19 = 200) ∧ (n 20 = 16 ∨ n 20 = 32 ∨ n 20 = 64) ∧ n 21 = 64 ∧ n 22 = 64 ∧ (n 23 = 64 ∨ n 23 = 200) ∧ n 24 ≤ 256 ∧ n 25 = 4096 ∧ n 26 = 4096 ∧ 64 ≤ n 27 ∧ n 27 ≤ 326 ∧ n 28 = 64
/-- the words are the code's -/
def Ready (W : Nat → Int32) (c : Cod) : Prop := ∃ (cF : Cod) (ht : Nat → Option Nat), LabC cF ∧ Typ cF ht ∧ (∀ i, i < cF.length → SR cF i) ∧ cF.length ≤ 64 ∧ WdF W (gmake cF ht).ls ∧ ∀ N loc wrd fu r, crun c N 0 [] loc wrd fu = some r → ∃ N', crun cF N' 0 [] loc wrd fu = some r
/-- what build leaves -/
def BdF (g A : Nat → Nat → Int32) (g' A' : Nat → Nat → Int32) : Prop := (∀ f, f ≠ 3 → f ≠ 12 → f ≠ 13 → g' 0 f = g 0 f) ∧ A' 0 = A 0 ∧ A' 1 = A 1 ∧ A' 9 = A 9 ∧ A' 10 = A 10
theorem opts_len {c c' : Cod} (h : Opts c c') : c'.length ≤ c.length := by
  obtain ⟨N, rfl⟩ := h
  induction N with
  | zero => exact Nat.le_refl _
  | succ N ih =>
    have := pss1_len (liv (pit c N)) (pit c N) 0 []
    simp only [List.length_nil, Nat.zero_add] at this
    have e : (pit c (N + 1)).length ≤ (pit c N).length := by
      show (pss (pit c N)).length ≤ _
      unfold pss
      rw [List.length_reverse]
      exact this
    omega
theorem CdI.snoc {f : Nat → Int32} {num arg : Nat → Int32} {k M : Nat} (h : CdI f (mkC num arg k)) (hM : num k = nI M) (hM2 : M ≤ 20) : CdI (va_up (va_up f (2 * k) (stv 2 M)) (2 * k + 1) (arg k)) (mkC num arg (k + 1)) := by
  intro i N a hi
  have hil := (List.getElem?_eq_some_iff.mp hi).1
  rw [mkC_len] at hil
  rw [mkC_get hil] at hi
  cases hi
  by_cases e : i = k
  · subst e
    rw [va_up_ne _ _ (by omega), va_up_self, va_up_self, hM, nI_clamp (by omega)]
    exact ⟨rfl, rfl, hM2⟩
  · rw [va_up_ne _ _ (by omega), va_up_ne _ _ (by omega), va_up_ne _ _ (by omega), va_up_ne _ _ (by omega)]
    exact h i _ _ (mkC_get (by omega))
set_option maxHeartbeats 4000000 in
theorem c_RC_build (l : Launch) {E : Bs} (hE : Hb E) {ρ : Nat → Nat} {g A : Nat → Nat → Int32} {n : Nat → Nat} {tx : Value} {sz : Nat} (hN : CNs n) (hs : g 0 2 = nI sz) (hsz : sz ≤ 64) (hsame : g 3 15 = 0) : CW l E DC AC y_RC_build b_RC_build 2 (some .boolean) ({ frames := 13, cells := 6 + 64 * sz, slots := 1508 + 4096 * sz, locals := 283 } : Room) [.ref (E.o 0)] ρ g A n tx (fun r ρ' g' A' n' tx' => ∃ b : Bool, r = some (.int (bI b)) ∧ (b = true ↔ Valid (A 0) (A 1) sz) ∧ (b = true → Ready (A' 26) (mkC (A 0) (A 1) sz)) ∧ g' 0 3 = bI b ∧ BdF g A g' A' ∧ CNs n' ∧ g' 3 15 = 0) := by
  refine CW.start [some (.ref (E.o 0)), none] hE (by decide) (Nat.le_of_ble_eq_true rfl) rfl ?_
  intro p e s m args below meth c G
  have hN0 := hN
  obtain ⟨hRN, n10, n11, n12, n13, n14, n15, n16, n17, n18, n19, n20, n21, n22, n23, n24, n25, n26, n27, n27', n28⟩ := hN
  have J33 : ∀ (ρ1 : Nat → Nat) (g1 A1 : Nat → Nat → Int32) (n1 : Nat → Nat) (tx1 : Value), ¬ Valid (A 0) (A 1) sz → BdF g A g1 A1 → n1 = n → g1 3 15 = 0 → V p l e ({ frames := 13, cells := 6 + 64 * sz, slots := 1508 + 4096 * sz, locals := 283 } : Room) s m args below meth c 2 (Sy E DC AC s.heap ρ1 g1 A1 n1 tx1) 0 0 (MQ below (QW E DC AC (fun r ρ' g' A' n' tx' => ∃ b : Bool, r = some (.int (bI b)) ∧ (b = true ↔ Valid (A 0) (A 1) sz) ∧ (b = true → Ready (A' 26) (mkC (A 0) (A 1) sz)) ∧ g' 0 3 = bI b ∧ BdF g A g' A' ∧ CNs n' ∧ g' 3 15 = 0)) args s (6 + 64 * sz) (1508 + 4096 * sz) E.F) 33 [some (.ref (E.o 0)), none] [.ref (E.o 0)] := by
    intro ρ1 g1 A1 n1 tx1 hnv hF en h15
    subst en
    refine v_iconst G 0 (decAt dd_RC_build 15 rfl) (by decide) ?_
    refine v_puti G (decAt dd_RC_build 16 rfl) f_RC_79 rfl rfl rfl ?_
    refine v_aload_n G (decAt dd_RC_build 17 rfl) rfl ?_
    refine v_geti G (decAt dd_RC_build 18 rfl) f_RC_79 ?_
    refine v_ri (y := 0) rfl ?_
    refine v_if_ne G 46 (decAt dd_RC_build 19 rfl) (by decide) (fun c41 => absurd c41 (by decide)) (fun _ => ?_)
    refine v_iconst G 0 (decAt dd_RC_build 20 rfl) (by decide) ?_
    refine v_room (6 + 64 * sz) (1508 + 4096 * sz) (Nat.zero_le _) (Nat.zero_le _) ?_
    exact v_zret G (decAt dd_RC_build 21 rfl) rfl rfl ⟨false, rfl, ⟨fun q => (by cases q), fun q => absurd q hnv⟩, fun q => (by cases q), up2_self, ⟨fun f a b c => by rw [up2_ne (by omega)]; exact hF.1 f a b c, hF.2⟩, hN0, by rw [up2_ne (by decide)]; exact h15⟩
  have J46 : ∀ (ρ1 : Nat → Nat) (g1 A1 : Nat → Nat → Int32) (n1 : Nat → Nat) (tx1 : Value), Valid (A 0) (A 1) sz → BdF g A g1 A1 → n1 = n → g1 3 15 = 0 → g1 0 3 = 1 → V p l e ({ frames := 13, cells := 6 + 64 * sz, slots := 1508 + 4096 * sz, locals := 283 } : Room) s m args below meth c 2 (Sy E DC AC s.heap ρ1 g1 A1 n1 tx1) 0 0 (MQ below (QW E DC AC (fun r ρ' g' A' n' tx' => ∃ b : Bool, r = some (.int (bI b)) ∧ (b = true ↔ Valid (A 0) (A 1) sz) ∧ (b = true → Ready (A' 26) (mkC (A 0) (A 1) sz)) ∧ g' 0 3 = bI b ∧ BdF g A g' A' ∧ CNs n' ∧ g' 3 15 = 0)) args s (6 + 64 * sz) (1508 + 4096 * sz) E.F) 46 [some (.ref (E.o 0)), none] [] := by
    intro ρ1 g1 A1 n1 tx1 hV hF en h15 h03
    subst en
    have hVv := hV
    obtain ⟨hpos, hLO, hnt, hAc⟩ := hVv
    have hC := LabOK_code hLO
    have hL := LabOK_C (by omega) hLO
    have hcl := mkC_len (A 0) (A 1) sz
    obtain ⟨ht0, hT0⟩ := Classical.not_not.mp hnt
    have hOp : ∀ c', Opts (mkC (A 0) (A 1) sz) c' → LabC c' ∧ 0 < c'.length := fun c' h => by
      obtain ⟨q1, ⟨ht, q2⟩, -⟩ := pf_opts h hL ⟨ht0, hT0⟩
      exact ⟨q1, q2.ne⟩
    have g02 : g1 0 2 = nI sz := (hF.1 2 (by decide) (by decide) (by decide)).trans hs
    have J65 : ∀ (d k : Nat) (ρ2 : Nat → Nat) (g2 A2 : Nat → Nat → Int32), k + d = sz → CdI (A2 11) (mkC (A 0) (A 1) k) → g2 1 1 = nI (2 * k) → g2 1 2 = nI 100 → (∀ f, g2 0 f = g1 0 f) → (∀ i, i ≠ 11 → A2 i = A1 i) → g2 3 15 = 0 → V p l e ({ frames := 13, cells := 6 + 64 * sz, slots := 1508 + 4096 * sz, locals := 283 } : Room) s m args below meth c 2 (Sy E DC AC s.heap ρ2 g2 A2 n1 tx1) 0 0 (MQ below (QW E DC AC (fun r ρ' g' A' n' tx' => ∃ b : Bool, r = some (.int (bI b)) ∧ (b = true ↔ Valid (A 0) (A 1) sz) ∧ (b = true → Ready (A' 26) (mkC (A 0) (A 1) sz)) ∧ g' 0 3 = bI b ∧ BdF g A g' A' ∧ CNs n' ∧ g' 3 15 = 0)) args s (6 + 64 * sz) (1508 + 4096 * sz) E.F) 65 [some (.ref (E.o 0)), some (.int (nI k))] [] := by
      intro d
      induction d with
      | zero =>
        intro k ρ2 g2 A2 hk hCd h11 h12 hfg hfA h15'
        have ek : k = sz := by omega
        subst ek
        refine v_iload_n G (decAt dd_RC_build 32 rfl) rfl ?_
        refine v_aload_n G (decAt dd_RC_build 33 rfl) rfl ?_
        refine v_geti G (decAt dd_RC_build 34 rfl) f_RC_75 ?_
        refine v_ri (y := (nI k)) ((hfg 2).trans g02) ?_
        refine v_icmp_ge G 102 (decAt dd_RC_build 35 rfl) (by decide) (fun c70 => ?_) (fun c70 => ?_)
        · skip
          refine v_aload_n G (decAt dd_RC_build 51 rfl) rfl ?_
          refine v_geto G (decAt dd_RC_build 52 rfl) f_RC_30 ?_
          refine v_aload_n G (decAt dd_RC_build 53 rfl) rfl ?_
          refine v_geto G (decAt dd_RC_build 54 rfl) f_RC_23 ?_
          refine v_callVv G (As := [.ref (E.o 1)]) (rm := ({ frames := 4, cells := 1, slots := 200, locals := 91 } : Room)) (P := fun ρ' g' A' n' tx' => ∃ c1, Opts (mkC (A 0) (A 1) k) c1 ∧ c1.length ≤ (pss c1).length ∧ CdI (A' 11) (pss c1) ∧ g' 1 1 = nI (2 * (pss c1).length) ∧ AllQ g2 A2 n1 g' A' n' ∧ tx' = tx1) (decAt dd_RC_build 55 rfl) k_RC_130 (CW.mono (c_BT_all l hE (c := mkC (A 0) (A 1) k) hOp (by omega) n12 n13 n14 n15 n16 n11 (by rw [hcl]; exact h11) h12 hCd) fun r ρ' g' A' n' tx' h => ⟨h.1, h.2⟩) (by decide) rfl rfl rfl (Nat.le_of_ble_eq_true rfl) ⟨Nat.le_of_ble_eq_true rfl, Nat.le_of_ble_eq_true rfl⟩ ⟨by show 0 + 1 ≤ 6 + 64 * k; omega, by show 0 + 200 ≤ 1508 + 4096 * k; omega⟩ ?_
          rintro ρ3 g3 A3 n3 tx3 ⟨c1, hO, hle, hCd3, hm3, hQ, etx⟩
          replace etx := etx.symm; subst etx
          obtain ⟨q1, q2, q3, q4, q5, q6⟩ := hQ
          obtain ⟨epss, hall⟩ := pss_all hle
          rw [epss] at hCd3 hm3
          obtain ⟨hLF, ⟨hF2, hTF⟩, hsem⟩ := pf_opts hO hL ⟨ht0, hT0⟩
          have hlenF : c1.length ≤ k := by have := opts_len hO; omega
          have hGk := gok_all hLF hTF hall (by omega)
          obtain ⟨hFit, hmo, hsa, hcL, htx⟩ := fit_make hLF hTF hall (by omega)
          have hln := lnok_make hLF hTF hall (by omega)
          have m11 : n3 11 = 1000 := (q3 11 (by decide) (by decide) (by decide)).trans n11
          refine v_aload_n G (decAt dd_RC_build 56 rfl) rfl ?_
          refine v_geto G (decAt dd_RC_build 57 rfl) f_RC_44 ?_
          refine v_iconst G 0 (decAt dd_RC_build 58 rfl) (by decide) ?_
          refine v_puti G (decAt dd_RC_build 59 rfl) f_RC_134 rfl rfl rfl ?_
          refine v_aload_n G (decAt dd_RC_build 60 rfl) rfl ?_
          refine v_geto G (decAt dd_RC_build 61 rfl) f_RC_37 ?_
          refine v_aload_n G (decAt dd_RC_build 62 rfl) rfl ?_
          refine v_geto G (decAt dd_RC_build 63 rfl) f_RC_23 ?_
          refine v_callVi G (As := [.ref (E.o 1)]) (rm := ({ frames := 12, cells := 3 + 64 * c1.length, slots := 656 + 4096 * c1.length, locals := 261 } : Room)) (P := fun v ρ' g' A' n' tx' => v = nI (gmake c1 hF2).mo ∧ GnI (gmake c1 hF2) g' A' n' ∧ MkF (up2 g3 5 1 0) A3 n3 g' A' n' ∧ tx' = tx1) (decAt dd_RC_build 64 rfl) k_RC_135 (CW.mono (c_GN_make l hE (c := c1) (ht := hF2) (g := up2 g3 5 1 0) (by omega) hTF.ne hTF hLF hall hCd3 ((up2_ne (by decide)).trans hm3) ((up2_ne (by decide)).trans ((q1 1 2 (by decide) (by decide)).trans h12)) ((up2_ne (by decide)).trans ((q1 3 15 (by decide) (by decide)).trans h15')) m11 ((q3 17 (by decide) (by decide) (by decide)).trans n17) ((q3 18 (by decide) (by decide) (by decide)).trans n18) (by rw [q3 19 (by decide) (by decide) (by decide)]; exact n19) (by rw [q3 20 (by decide) (by decide) (by decide)]; exact n20) ((q3 21 (by decide) (by decide) (by decide)).trans n21) ((q3 22 (by decide) (by decide) (by decide)).trans n22) (by rw [q3 23 (by decide) (by decide) (by decide)]; exact n23) (by rw [q3 24 (by decide) (by decide) (by decide)]; exact n24) ((q3 25 (by decide) (by decide) (by decide)).trans n25) hGk hFit) fun r ρ' g' A' n' tx' h => ⟨_, h.1, rfl, h.2⟩) (by decide) rfl rfl rfl (Nat.le_of_ble_eq_true rfl) ⟨Nat.le_of_ble_eq_true rfl, Nat.le_of_ble_eq_true rfl⟩ ⟨by show 0 + 1 + (3 + 64 * c1.length) ≤ 6 + 64 * k; omega, by show 0 + 200 + (656 + 4096 * c1.length) ≤ 1508 + 4096 * k; omega⟩ ?_
          rintro v4 ρ4 g4 A4 n4 tx4 ⟨rfl, hI4, hM4, etx⟩
          replace etx := etx.symm; subst etx
          obtain ⟨r1, r2, r3, r4, r5, r6⟩ := hM4
          refine v_istore_1 G (decAt dd_RC_build 65 rfl) (by decide) rfl ?_
          refine v_aload_n G (decAt dd_RC_build 66 rfl) rfl ?_
          refine v_geto G (decAt dd_RC_build 67 rfl) f_RC_44 ?_
          refine v_aload_n G (decAt dd_RC_build 68 rfl) rfl ?_
          refine v_geto G (decAt dd_RC_build 69 rfl) f_RC_37 ?_
          refine v_geto G (decAt dd_RC_build 70 rfl) f_RC_139 ?_
          refine v_callVi G (As := [.ref (E.o 4)]) (rm := ({ frames := 5, cells := 2, slots := 652, locals := 115 } : Room)) (P := fun v ρ' g' A' n' tx' => v = 65536 ∧ WdF (A' 26) (gmake c1 hF2).ls ∧ LdF g4 A4 n4 g' A' n' ∧ 64 ≤ n' 27 ∧ n' 27 ≤ 326 ∧ tx' = .ref (E.o 4)) (decAt dd_RC_build 71 rfl) k_RC_143 (CW.mono (c_LD_load l hE (ls := (gmake c1 hF2).ls) hln hcL htx hI4.2.2.1.2 ((r1 5 1 (by decide) (by decide)).trans up2_self) hI4.2.2.1.1 hI4.n25 ((r3 26 (by decide) (by decide) (by decide) (by decide)).trans ((q3 26 (by decide) (by decide) (by decide)).trans n26)) (by rw [r3 27 (by decide) (by decide) (by decide) (by decide), q3 27 (by decide) (by decide) (by decide)]; exact n27) (by rw [r3 27 (by decide) (by decide) (by decide) (by decide), q3 27 (by decide) (by decide) (by decide)]; exact n27') ((r3 28 (by decide) (by decide) (by decide) (by decide)).trans ((q3 28 (by decide) (by decide) (by decide)).trans n28))) fun r ρ' g' A' n' tx' h => ⟨_, h.1, rfl, h.2⟩) (by decide) rfl rfl rfl (Nat.le_of_ble_eq_true rfl) ⟨Nat.le_of_ble_eq_true rfl, Nat.le_of_ble_eq_true rfl⟩ ⟨by show 0 + 1 + (3 + 64 * c1.length) + 2 ≤ 6 + 64 * k; omega, by show 0 + 200 + (656 + 4096 * c1.length) + 652 ≤ 1508 + 4096 * k; omega⟩ ?_
          rintro v5 ρ5 g5 A5 n5 tx5 ⟨rfl, hW5, hF5, h5a, h5b, etx⟩
          subst etx
          have nk : ∀ i, i ≠ 12 → i ≠ 13 → i ≠ 15 → i ≠ 19 → i ≠ 20 → i ≠ 23 → i ≠ 24 → i ≠ 27 → n5 i = n1 i := fun i a1 a2 a3 a4 a5 a6 a7 a8 => (hF5.2.2 i a8).trans ((r3 i a4 a5 a6 a7).trans (q3 i a1 a2 a3))
          have m10 : n5 10 = 100 := (nk 10 (by decide) (by decide) (by decide) (by decide) (by decide) (by decide) (by decide) (by decide)).trans n10
          refine v_pop G (decAt dd_RC_build 72 rfl) rfl ?_
          refine v_aload_n G (decAt dd_RC_build 73 rfl) rfl ?_
          refine v_geta G (decAt dd_RC_build 74 rfl) f_RC_72 ?_
          refine v_alen G 10 (decAt dd_RC_build 75 rfl) (by decide) ?_
          refine v_ri (y := (nI 100)) (by rw [m10]) ?_
          refine v_iload_n G (decAt dd_RC_build 76 rfl) rfl ?_
          refine v_bipush G 20 (decAt dd_RC_build 77 rfl) (by decide) ?_
          refine v_iadd G (decAt dd_RC_build 78 rfl) ?_
          refine v_ri (y := (nI ((gmake c1 hF2).mo + 20))) (nI_add _ 20) ?_
          refine v_icmp_ge G 170 (decAt dd_RC_build 79 rfl) (by decide) (fun c157 => ?_) (fun c157 => ?_)
          · skip
            refine v_iconst G 1 (decAt dd_RC_build 86 rfl) (by decide) ?_
            refine v_room (6 + 64 * k) (1508 + 4096 * k) (by show 0 + 1 + (3 + 64 * c1.length) + 2 ≤ _; omega) (by show 0 + 200 + (656 + 4096 * c1.length) + 652 ≤ _; omega) ?_
            have hgf : ∀ f, g5 0 f = g1 0 f := fun f => (hF5.1 0 f (by omega)).trans ((r1 0 f (by omega) (by omega)).trans ((up2_ne (by omega)).trans ((q1 0 f (by omega) (by omega)).trans (hfg f))))
            have hAf : ∀ i, i ≤ 10 → A5 i = A1 i := fun i hi => (hF5.2.1 i (by omega) (by omega) (by omega)).trans ((r2 i (by omega)).trans ((q2 i (by omega)).trans (hfA i (by omega))))
            have hRN5 : RN n5 := by
              obtain ⟨z0, z1, z2, z3, z4, z5, z6, z7, z8, z9⟩ := hRN
              have nk' : ∀ i, i ≤ 9 → n5 i = n1 i := fun i hi => nk i (by omega) (by omega) (by omega) (by omega) (by omega) (by omega) (by omega) (by omega)
              exact ⟨(nk' 0 (by omega)).trans z0, (nk' 1 (by omega)).trans z1, (nk' 2 (by omega)).trans z2, (nk' 3 (by omega)).trans z3, (nk' 4 (by omega)).trans z4, (nk' 5 (by omega)).trans z5, (nk' 6 (by omega)).trans z6, (nk' 7 (by omega)).trans z7, (nk' 8 (by omega)).trans z8, (nk' 9 (by omega)).trans z9⟩
            have n4e : ∀ i, i ≠ 27 → n5 i = n4 i := hF5.2.2
            have h20 := hI4.gn
            exact v_zret G (decAt dd_RC_build 87 rfl) rfl rfl ⟨true, rfl, ⟨fun _ => hV, fun _ => rfl⟩, fun _ => ⟨c1, hF2, hLF, hTF, hall, by omega, hW5, hsem⟩, (hgf 3).trans h03, ⟨fun f a b c => (hgf f).trans (hF.1 f a b c), (hAf 0 (by omega)).trans hF.2.1, (hAf 1 (by omega)).trans hF.2.2.1, (hAf 9 (by omega)).trans hF.2.2.2.1, (hAf 10 (by omega)).trans hF.2.2.2.2⟩, ⟨hRN5, m10, (nk 11 (by decide) (by decide) (by decide) (by decide) (by decide) (by decide) (by decide) (by decide)).trans n11, (by rw [n4e 12 (by decide), r3 12 (by decide) (by decide) (by decide) (by decide)]; exact q4), (by rw [n4e 13 (by decide), r3 13 (by decide) (by decide) (by decide) (by decide)]; exact q5), (nk 14 (by decide) (by decide) (by decide) (by decide) (by decide) (by decide) (by decide) (by decide)).trans n14, Or.inr (by rw [n4e 15 (by decide), r3 15 (by decide) (by decide) (by decide) (by decide)]; exact q6), (nk 16 (by decide) (by decide) (by decide) (by decide) (by decide) (by decide) (by decide) (by decide)).trans n16, (nk 17 (by decide) (by decide) (by decide) (by decide) (by decide) (by decide) (by decide) (by decide)).trans n17, (nk 18 (by decide) (by decide) (by decide) (by decide) (by decide) (by decide) (by decide) (by decide)).trans n18, Or.inr ((n4e 19 (by decide)).trans r4), (by rw [n4e 20 (by decide)]; exact h20), (nk 21 (by decide) (by decide) (by decide) (by decide) (by decide) (by decide) (by decide) (by decide)).trans n21, (nk 22 (by decide) (by decide) (by decide) (by decide) (by decide) (by decide) (by decide) (by decide)).trans n22, Or.inr ((n4e 23 (by decide)).trans r5), (by rw [n4e 24 (by decide)]; exact r6), (nk 25 (by decide) (by decide) (by decide) (by decide) (by decide) (by decide) (by decide) (by decide)).trans n25, (nk 26 (by decide) (by decide) (by decide) (by decide) (by decide) (by decide) (by decide) (by decide)).trans n26, h5a, h5b, (nk 28 (by decide) (by decide) (by decide) (by decide) (by decide) (by decide) (by decide) (by decide)).trans n28⟩, (hF5.1 3 15 (by decide)).trans (hI4.sam.trans (bI_f hsa))⟩
          · skip
            exact absurd (nI_le (by omega) (by omega)) c157
        · skip
          exact absurd (nI_le (by omega) (by omega)) c70
      | succ d ih =>
        intro k ρ2 g2 A2 hk hCd h11 h12 hfg hfA h15'
        obtain ⟨M, hM⟩ : ∃ M, (mkC (A 0) (A 1) sz)[k]? = some (M, A 1 k) := ⟨_, mkC_get (by omega)⟩
        obtain ⟨e1, -, hM20⟩ := hC k M _ hM
        have eA0 : A2 0 k = nI M := by rw [hfA 0 (by decide), hF.2.1]; exact e1
        have eA1 : A2 1 k = A 1 k := by rw [hfA 1 (by decide), hF.2.2.1]
        obtain ⟨z0, z1, -⟩ := hRN
        refine v_iload_n G (decAt dd_RC_build 32 rfl) rfl ?_
        refine v_aload_n G (decAt dd_RC_build 33 rfl) rfl ?_
        refine v_geti G (decAt dd_RC_build 34 rfl) f_RC_75 ?_
        refine v_ri (y := (nI sz)) ((hfg 2).trans g02) ?_
        refine v_icmp_ge G 102 (decAt dd_RC_build 35 rfl) (by decide) (fun c70 => ?_) (fun c70 => ?_)
        · skip
          exact absurd c70 (nI_ge (by omega) (by omega))
        · skip
          refine v_aload_n G (decAt dd_RC_build 36 rfl) rfl ?_
          refine v_geto G (decAt dd_RC_build 37 rfl) f_RC_23 ?_
          refine v_gets G 2 (decAt dd_RC_build 38 rfl) (by decide) tm_304 ?_
          refine v_aload_n G (decAt dd_RC_build 39 rfl) rfl ?_
          refine v_geta G (decAt dd_RC_build 40 rfl) f_RC_13 ?_
          refine v_iload_n G (decAt dd_RC_build 41 rfl) rfl ?_
          refine v_iald G 0 k (decAt dd_RC_build 42 rfl) (by decide) rfl rfl (by omega) ?_
          refine v_ri (y := (nI M)) eA0 ?_
          refine v_stld G 2 M (decAt dd_RC_build 43 rfl) (by decide) rfl (by omega) ?_
          refine v_aload_n G (decAt dd_RC_build 44 rfl) rfl ?_
          refine v_geta G (decAt dd_RC_build 45 rfl) f_RC_17 ?_
          refine v_iload_n G (decAt dd_RC_build 46 rfl) rfl ?_
          refine v_iald G 1 k (decAt dd_RC_build 47 rfl) (by decide) rfl rfl (by omega) ?_
          refine v_ri (y := (A 1 k)) eA1 ?_
          refine v_callVvk G (As := [.int (stv 2 M), .int (A 1 k)]) (decAt dd_RC_build 48 rfl) k_RC_127 (c_CD_emit l hE (mm := 2 * k) h11 (by omega)) (by decide) rfl rfl rfl (Nat.le_of_ble_eq_true rfl) ⟨Nat.le_of_ble_eq_true rfl, Nat.le_of_ble_eq_true rfl⟩ rfl rfl ⟨Nat.zero_le _, Nat.zero_le _⟩ ?_
          refine v_iinc_1 G (nI (k + 1)) (decAt dd_RC_build 49 rfl) ((nI_1 _)) (by decide) rfl ?_
          refine v_goto G 65 (decAt dd_RC_build 50 rfl) (by decide) ?_
          exact ih (k + 1) _ _ _ (by omega) (by rw [va_up_self]; exact hCd.snoc e1 hM20) up2_self (by rw [up2_ne (by decide)]; exact h12) (fun f => by rw [up2_ne (by omega)]; exact hfg f) (fun i hi => by rw [va_up_ne _ _ hi]; exact hfA i hi) (by rw [up2_ne (by decide)]; exact h15')
    refine v_aload_n G (decAt dd_RC_build 22 rfl) rfl ?_
    refine v_geto G (decAt dd_RC_build 23 rfl) f_RC_23 ?_
    refine v_iconst G 0 (decAt dd_RC_build 24 rfl) (by decide) ?_
    refine v_puti G (decAt dd_RC_build 25 rfl) f_RC_120 rfl rfl rfl ?_
    refine v_aload_n G (decAt dd_RC_build 26 rfl) rfl ?_
    refine v_geto G (decAt dd_RC_build 27 rfl) f_RC_23 ?_
    refine v_bipush G 100 (decAt dd_RC_build 28 rfl) (by decide) ?_
    refine v_puti G (decAt dd_RC_build 29 rfl) f_RC_121 rfl rfl rfl ?_
    refine v_iconst G 0 (decAt dd_RC_build 30 rfl) (by decide) ?_
    refine v_istore_1 G (decAt dd_RC_build 31 rfl) (by decide) rfl ?_
    refine J65 sz 0 _ _ _ (by omega) (fun i N a hi => by simp [mkC] at hi) ((up2_ne (by decide)).trans up2_self) up2_self (fun f => by rw [up2_ne (by omega), up2_ne (by omega)]) (fun _ _ => rfl) (by rw [up2_ne (by decide), up2_ne (by decide)]; exact h15)
  refine v_aload_n G (decAt dd_RC_build 0 rfl) rfl ?_
  refine v_aload_n G (decAt dd_RC_build 1 rfl) rfl ?_
  refine v_geti G (decAt dd_RC_build 2 rfl) f_RC_75 ?_
  refine v_ri (y := (nI sz)) hs ?_
  refine v_if_le G 33 (decAt dd_RC_build 3 rfl) (by decide) (fun c5 => ?_) (fun c5 => ?_)
  · skip
    have hz : sz = 0 := by
      rcases Nat.eq_zero_or_pos sz with z | z
      · exact z
      · exact absurd c5 (nI_nle z (by omega))
    exact J33 _ _ _ _ _ (fun q => by have := q.1; omega) ⟨fun _ _ _ _ => rfl, rfl, rfl, rfl, rfl⟩ rfl hsame
  · skip
    have hpos : 0 < sz := Nat.pos_of_ne_zero fun z => c5 (by rw [z]; decide)
    refine v_aload_n G (decAt dd_RC_build 4 rfl) rfl ?_
    refine v_callVi0 G (As := []) (P := fun v ρ' g' A' n' tx' => ∃ b : Bool, v = bI b ∧ (b = true ↔ LabOK (A 0) (A 1) sz) ∧ (b = true → ∀ lab, lab < 100 → A' 2 lab = plcI (A 0) (A 1) sz (nI lab)) ∧ ρ' = ρ ∧ g' = g ∧ n' = n ∧ tx' = tx ∧ ∀ i, i ≠ 2 → A' i = A i) (rm := ({ frames := 1, cells := 0, slots := 0, locals := 23 } : Room)) (decAt dd_RC_build 5 rfl) k_RC_110 (CW.mono (c_RC_areLabels l hE (sz := sz) hRN hs (by omega)) fun r ρ' g' A' n' tx' h => by obtain ⟨b, h1, h2⟩ := h; exact ⟨_, h1, b, rfl, h2⟩) (by decide) rfl rfl rfl (Nat.le_of_ble_eq_true rfl) ⟨Nat.le_of_ble_eq_true rfl, Nat.le_of_ble_eq_true rfl⟩ rfl rfl ⟨Nat.zero_le _, Nat.zero_le _⟩ (fun v1 ρ1 g1 A1 n1' tx1 hv => ?_)
    obtain ⟨b1, rfl, hb1, hla1, e1, e2, e3, e4, hfr1⟩ := hv
    replace e1 := e1.symm; subst e1; replace e2 := e2.symm; subst e2; replace e3 := e3.symm; subst e3; replace e4 := e4.symm; subst e4
    refine v_if_eq G 33 (decAt dd_RC_build 6 rfl) (by decide) (fun c12 => ?_) (fun c12 => ?_)
    · skip
      have hb : b1 = false := by cases b1 with | true => exact absurd c12 (by decide) | false => rfl
      exact J33 _ _ _ _ _ (fun q => by rw [hb1.mpr q.2.1] at hb; cases hb) ⟨fun _ _ _ _ => rfl, hfr1 0 (by decide), hfr1 1 (by decide), hfr1 9 (by decide), hfr1 10 (by decide)⟩ rfl hsame
    · skip
      have hbt1 : b1 = true := eq_true_of_ne_false (fun z => c12 (bI_f z))
      have hLO := hb1.mp hbt1
      have hC := LabOK_code hLO
      have hL := LabOK_C (show sz ≤ 400 by omega) hLO
      have hcl := mkC_len (A 0) (A 1) sz
      have hC1 : CodeIs (mkC (A 0) (A 1) sz) (A1 0) (A1 1) := by rw [hfr1 0 (by decide), hfr1 1 (by decide)]; exact hC
      have hla : ∀ lab, lab < 100 → A1 2 lab = oI (lbl (mkC (A 0) (A 1) sz) (nI lab)) := fun lab hl => by
        have := plcI_lbl (lab := nI lab) hC
        rw [hcl] at this
        rw [hla1 hbt1 lab hl, this, oI_eq]
        rfl
      refine v_aload_n G (decAt dd_RC_build 7 rfl) rfl ?_
      refine v_callVi0 G (As := []) (P := fun v ρ' g' A' n' tx' => ∃ b : Bool, v = bI b ∧ (b = true → HtsOK (mkC (A 0) (A 1) sz) (A' 3)) ∧ (b = false → noTyp (mkC (A 0) (A 1) sz)) ∧ ρ' = ρ ∧ (∃ x y, g' = up2 (up2 g 0 12 x) 0 13 y) ∧ n' = n ∧ tx' = tx ∧ ∀ i, i ≠ 3 → i ≠ 4 → i ≠ 5 → A' i = A1 i) (rm := ({ frames := 1, cells := 0, slots := 0, locals := 22 } : Room)) (decAt dd_RC_build 8 rfl) k_RC_114 (CW.mono (c_RC_areWays l hE (cd := mkC (A 0) (A 1) sz) hRN (by rw [hcl]; exact hs) (by omega) (by omega) hC1 hL hla) fun r ρ' g' A' n' tx' h => by obtain ⟨b, h1, h2⟩ := h; exact ⟨_, h1, b, rfl, h2⟩) (by decide) rfl rfl rfl (Nat.le_of_ble_eq_true rfl) ⟨Nat.le_of_ble_eq_true rfl, Nat.le_of_ble_eq_true rfl⟩ rfl rfl ⟨Nat.zero_le _, Nat.zero_le _⟩ (fun v2 ρ2 g2 A2 n2' tx2 hv => ?_)
      obtain ⟨b2, rfl, hbt2, hbf2, e1, ⟨x2, y2, e2⟩, e3, e4, hfr2⟩ := hv
      replace e1 := e1.symm; subst e1; subst e2; replace e3 := e3.symm; subst e3; replace e4 := e4.symm; subst e4
      have hfr : ∀ i, i ≠ 2 → i ≠ 3 → i ≠ 4 → i ≠ 5 → A2 i = A i := fun i a b c d => (hfr2 i b c d).trans (hfr1 i a)
      have hgF : ∀ f, f ≠ 3 → f ≠ 12 → f ≠ 13 → (up2 (up2 g 0 12 x2) 0 13 y2) 0 f = g 0 f := fun f a b c => by rw [up2_ne (by omega), up2_ne (by omega)]
      have h15 : (up2 (up2 g 0 12 x2) 0 13 y2) 3 15 = 0 := by rw [up2_ne (by decide), up2_ne (by decide)]; exact hsame
      refine v_if_eq G 33 (decAt dd_RC_build 9 rfl) (by decide) (fun c19 => ?_) (fun c19 => ?_)
      · skip
        have hb : b2 = false := by cases b2 with | true => exact absurd c19 (by decide) | false => rfl
        exact J33 _ _ _ _ _ (fun q => q.2.2.1 (hbf2 hb)) ⟨hgF, hfr 0 (by decide) (by decide) (by decide) (by decide), hfr 1 (by decide) (by decide) (by decide) (by decide), hfr 9 (by decide) (by decide) (by decide) (by decide), hfr 10 (by decide) (by decide) (by decide) (by decide)⟩ rfl h15
      · skip
        have hH := hbt2 (eq_true_of_ne_false (fun z => c19 (bI_f z)))
        have hC2 : CodeIs (mkC (A 0) (A 1) sz) (A2 0) (A2 1) := by rw [hfr2 0 (by decide) (by decide) (by decide), hfr2 1 (by decide) (by decide) (by decide)]; exact hC1
        have hla2 : ∀ lab, lab < 100 → A2 2 lab = oI (lbl (mkC (A 0) (A 1) sz) (nI lab)) := by rw [hfr2 2 (by decide) (by decide) (by decide)]; exact hla
        refine v_aload_n G (decAt dd_RC_build 10 rfl) rfl ?_
        refine v_callVi0 G (As := []) (P := fun v ρ' g' A' n' tx' => ∃ b : Bool, v = bI b ∧ (b = true ↔ Acy (mkC (A 0) (A 1) sz)) ∧ ρ' = ρ ∧ g' = up2 (up2 g 0 12 x2) 0 13 y2 ∧ n' = n ∧ tx' = tx ∧ ∀ i, i ≠ 6 → i ≠ 7 → i ≠ 8 → A' i = A2 i) (rm := ({ frames := 2, cells := 0, slots := 0, locals := 47 } : Room)) (decAt dd_RC_build 11 rfl) k_RC_117 (CW.mono (c_RC_areRounds l hE (cd := mkC (A 0) (A 1) sz) (g := up2 (up2 g 0 12 x2) 0 13 y2) hRN (by rw [hcl, up2_ne (by decide), up2_ne (by decide)]; exact hs) (by omega) (by omega) hC2 hL hla2 hH) fun r ρ' g' A' n' tx' h => by obtain ⟨b, h1, h2⟩ := h; exact ⟨_, h1, b, rfl, h2⟩) (by decide) rfl rfl rfl (Nat.le_of_ble_eq_true rfl) ⟨Nat.le_of_ble_eq_true rfl, Nat.le_of_ble_eq_true rfl⟩ rfl rfl ⟨Nat.zero_le _, Nat.zero_le _⟩ (fun v3 ρ3 g3 A3 n3' tx3 hv => ?_)
        obtain ⟨b3, rfl, hb3, e1, rfl, e3, e4, hfr3⟩ := hv
        replace e1 := e1.symm; subst e1; replace e3 := e3.symm; subst e3; replace e4 := e4.symm; subst e4
        have hfr4 : ∀ i, i = 0 ∨ i = 1 ∨ i = 9 ∨ i = 10 → A3 i = A i := fun i hi => (hfr3 i (by omega) (by omega) (by omega)).trans (hfr i (by omega) (by omega) (by omega) (by omega))
        refine v_if_eq G 33 (decAt dd_RC_build 12 rfl) (by decide) (fun c26 => ?_) (fun c26 => ?_)
        · skip
          have hb : b3 = false := by cases b3 with | true => exact absurd c26 (by decide) | false => rfl
          exact J33 _ _ _ _ _ (fun q => by rw [hb3.mpr q.2.2.2] at hb; cases hb) ⟨hgF, hfr4 0 (by decide), hfr4 1 (by decide), hfr4 9 (by decide), hfr4 10 (by decide)⟩ rfl h15
        · skip
          refine v_iconst G 1 (decAt dd_RC_build 13 rfl) (by decide) ?_
          refine v_goto G 34 (decAt dd_RC_build 14 rfl) (by decide) ?_
          refine v_puti G (decAt dd_RC_build 16 rfl) f_RC_79 rfl rfl rfl ?_
          refine v_aload_n G (decAt dd_RC_build 17 rfl) rfl ?_
          refine v_geti G (decAt dd_RC_build 18 rfl) f_RC_79 ?_
          refine v_ri (y := 1) rfl ?_
          refine v_if_ne G 46 (decAt dd_RC_build 19 rfl) (by decide) (fun _ => ?_) (fun c41 => absurd c41 (by decide))
          exact J46 _ _ _ _ _ ⟨hpos, hLO, fun q => q ⟨_, hH.typ (by omega)⟩, hb3.mp (eq_true_of_ne_false (fun z => c26 (bI_f z)))⟩ ⟨fun f a b c => by rw [up2_ne (by omega)]; exact hgF f a b c, hfr4 0 (by decide), hfr4 1 (by decide), hfr4 9 (by decide), hfr4 10 (by decide)⟩ rfl (by rw [up2_ne (by decide)]; exact h15) up2_self
