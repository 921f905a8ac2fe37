/-! Generator: reckon -/
theorem RkI.fin {c : Cod} {ht : Nat → Option Nat} {be dp : Nat → Int32} (hall : ∀ i, i < c.length → SR c i) (h : RkI c ht be dp [] none) : ∀ lab j, lbl c lab = some j → ∃ h, ht j = some h ∧ dp lab.toNatClampNeg = nI (h + 1) := by
  obtain ⟨h1, h2, h3, h4, h5, h6⟩ := h
  have key : ∀ i, SR c i → i < c.length → be (2 * i) = 1 := fun i hi => hi (fun i => i < c.length → be (2 * i) = 1) (fun _ => (h4.resolve_right (fun z => z.elim (fun ⟨d, q⟩ => by cases q) (fun q => by cases q)))) (fun i t hp hs ht => by
    obtain ⟨n, k, hq, -⟩ := id hs
    have hil := (List.getElem?_eq_some_iff.mp hq).1
    exact (h3 i t hil (hp hil) hs ht).elim id (fun z => z.elim (fun ⟨d, q⟩ => by cases q) (fun q => by cases q)))
  intro lab j hj
  exact h6 j lab (lbl_lt hj) (key j (hall j (lbl_lt hj)) (lbl_lt hj)) (lbl_ok hj)
/-- depths of labels, told -/
def DpI (c : Cod) (ht : Nat → Option Nat) (dp : Nat → Int32) : Prop := ∀ lab j, lbl c lab = some j → ∃ h, ht j = some h ∧ dp lab.toNatClampNeg = nI (h + 1)

set_option maxHeartbeats 4000000 in
theorem c_GN_reckon (l : Launch) {E : Bs} (hE : Hb E) {ρ : Nat → Nat} {g A : Nat → Nat → Int32} {n : Nat → Nat} {tx : Value} {c : Cod} {ht : Nat → Option Nat} (hlen : c.length ≤ 64) (hc0 : 0 < c.length) (hT : Typ c ht) (hL : LabC c) (hall : ∀ i, i < c.length → SR c i) (hC : CdI (A 11) c) (hN : g 1 1 = nI (2 * c.length)) (hlb : g 1 2 = nI 100) (hb11 : n 11 = 1000) (hb21 : n 21 = 64) (hb22 : n 22 = 64) (hb23 : n 23 = 64 ∨ n 23 = 200) (hb24 : n 24 ≤ 256) (hb19 : 100 ≤ n 19) : CW l E DC AC y_GN_reckon b_GN_reckon 3 none ({ frames := 2, cells := 2, slots := 456, locals := 49 } : Room) [.ref (E.o 3), .ref (E.o 1)] ρ g A n tx (fun r ρ' g' A' n' tx' => r = none ∧ DpI c ht (A' 19) ∧ (∀ k f, ¬ (k = 3 ∧ f = 14) → g' k f = g k f) ∧ (∀ i, i ≠ 19 → i ≠ 21 → i ≠ 22 → i ≠ 23 → i ≠ 24 → A' i = A i) ∧ (∀ i, i ≠ 23 → i ≠ 24 → n' i = n i) ∧ n' 23 = 200 ∧ n' 24 ≤ 256 ∧ tx' = tx) := by
  refine CW.start [some (.ref (E.o 3)), some (.ref (E.o 1)), none] hE (by decide) (Nat.le_of_ble_eq_true rfl) rfl ?_
  intro p e s m args below meth c1 G
  have J123 : ∀ (μ : Nat) (ρ1 : Nat → Nat) (A1 : Nat → Nat → Int32) (n1 : Nat → Nat) (ws1 : List (Nat × Nat)) (x2 : Option Value), (∀ i, i ≠ 19 → i ≠ 21 → i ≠ 22 → i ≠ 23 → i ≠ 24 → A1 i = A i) → (∀ i, i ≠ 23 → i ≠ 24 → n1 i = n i) → n1 23 = 200 → n1 24 ≤ 256 → 2 * c.length ≤ n1 24 → WhI c (A1 23) → RkI c ht (A1 24) (A1 19) ws1 none ∨ (ws1 = [(0, 0)] ∧ RkI c ht (A1 24) (A1 19) [] (some 0)) → RowIs (A1 21) (wsT ws1) → RowIs (A1 22) (wsD ws1) → 2 * cnt (fun i => A1 24 (2 * i)) c.length + ws1.length < μ → V p l e ({ frames := 2, cells := 2, slots := 456, locals := 49 } : Room) s m args below meth c1 3 (Sy E DC AC s.heap ρ1 (up2 g 3 14 (nI ws1.length)) A1 n1 tx) 2 456 (MQ below (QW E DC AC (fun r ρ' g' A' n' tx' => r = none ∧ DpI c ht (A' 19) ∧ (∀ k f, ¬ (k = 3 ∧ f = 14) → g' k f = g k f) ∧ (∀ i, i ≠ 19 → i ≠ 21 → i ≠ 22 → i ≠ 23 → i ≠ 24 → A' i = A i) ∧ (∀ i, i ≠ 23 → i ≠ 24 → n' i = n i) ∧ n' 23 = 200 ∧ n' 24 ≤ 256 ∧ tx' = tx)) args s 2 456 E.F) 123 [some (.ref (E.o 3)), some (.ref (E.o 1)), x2] [] := by
    intro μ
    induction μ with
    | zero => intro ρ1 A1 n1 ws1 x2 hfA hfn h23 h24 h24b hW hI hR1 hR2 hμ; exact absurd hμ (by omega)
    | succ μ ih =>
      intro ρ1 A1 n1 ws1 x2 hfA hfn h23 h24 h24b hW hI hR1 hR2 hμ
      rcases ws1 with _ | ⟨⟨t, h⟩, ws1⟩
      · skip
        have hI := hI.resolve_right (fun z => by cases z.1)
        refine v_aload_n G (decAt dd_GN_reckon 70 rfl) rfl ?_
        refine v_geti G (decAt dd_GN_reckon 71 rfl) f_GN_112 ?_
        refine v_ri (y := (nI 0)) up2_self ?_
        refine v_if_le G 166 (decAt dd_GN_reckon 72 rfl) (by decide) (fun _ => ?_) (fun c127 => absurd c127 (by decide))
        exact v_vret G (decAt dd_GN_reckon 93 rfl) rfl ⟨rfl, hI.fin hall, fun k f h => up2_ne h, hfA, hfn, h23, h24, rfl⟩
      · skip
        have hcl := cnt_le (fun i => A1 24 (2 * i)) c.length
        have hI2 : RkI c ht (A1 24) (A1 19) ws1 (some t) ∧ ht t = some h ∧ ws1.length < 64 := by
          rcases hI with hI | ⟨e, hI⟩
          · obtain ⟨h1, h2, h3, h4, h5, h6⟩ := hI
            refine ⟨⟨h1, fun x hx => h2 x (List.mem_cons_of_mem _ hx), fun i x hi hb hs hx => ?_, ?_, by simp only [List.length_cons] at h5; omega, h6⟩, h2 _ List.mem_cons_self, by simp only [List.length_cons] at h5; omega⟩
            · rcases h3 i x hi hb hs hx with q | ⟨d, q⟩ | q
              · exact Or.inl q
              · exact Or.inr ((List.mem_cons.mp q).elim (fun e => Or.inr (by cases e; rfl)) (fun z => Or.inl ⟨d, z⟩))
              · cases q
            · rcases h4 with q | ⟨d, q⟩ | q
              · exact Or.inl q
              · exact Or.inr ((List.mem_cons.mp q).elim (fun e => Or.inr (by cases e; rfl)) (fun z => Or.inl ⟨d, z⟩))
              · cases q
          · cases e
            exact ⟨hI, hT.1, by decide⟩
        have hwl := hI2.2.2
        have hs1 : A1 21 ws1.length = nI (2 * t) := by have := hR1.1; rwa [show (List.map (fun x : Nat × Nat => nI (2 * x.1)) ws1).length = ws1.length from List.length_map _] at this
        have hs2 : A1 22 ws1.length = nI h := by have := hR2.1; rwa [show (List.map (fun x : Nat × Nat => nI x.2) ws1).length = ws1.length from List.length_map _] at this
        have h21 : n1 21 = 64 := (hfn 21 (by decide) (by decide)).trans hb21
        have h22 : n1 22 = 64 := (hfn 22 (by decide) (by decide)).trans hb22
        refine v_aload_n G (decAt dd_GN_reckon 70 rfl) rfl ?_
        refine v_geti G (decAt dd_GN_reckon 71 rfl) f_GN_112 ?_
        refine v_ri (y := (nI (ws1.length + 1))) up2_self ?_
        refine v_if_le G 166 (decAt dd_GN_reckon 72 rfl) (by decide) (fun c127 => ?_) (fun c127 => ?_)
        · skip
          exact absurd c127 (nI_nle (by omega) (by omega))
        · skip
          refine v_aload_n G (decAt dd_GN_reckon 73 rfl) rfl ?_
          refine v_dup G (decAt dd_GN_reckon 74 rfl) rfl ?_
          refine v_geti G (decAt dd_GN_reckon 75 rfl) f_GN_112 ?_
          refine v_ri (y := (nI (ws1.length + 1))) up2_self ?_
          refine v_iconst G 1 (decAt dd_GN_reckon 76 rfl) (by decide) ?_
          refine v_isub G (decAt dd_GN_reckon 77 rfl) ?_
          refine v_ri (y := (nI ws1.length)) (nI_pred _) ?_
          refine v_puti G (decAt dd_GN_reckon 78 rfl) f_GN_112 rfl rfl rfl ?_
          refine v_aload_n G (decAt dd_GN_reckon 79 rfl) rfl ?_
          refine v_aload_n G (decAt dd_GN_reckon 80 rfl) rfl ?_
          refine v_aload_n G (decAt dd_GN_reckon 81 rfl) rfl ?_
          refine v_geta G (decAt dd_GN_reckon 82 rfl) f_GN_31 ?_
          refine v_aload_n G (decAt dd_GN_reckon 83 rfl) rfl ?_
          refine v_geti G (decAt dd_GN_reckon 84 rfl) f_GN_112 ?_
          refine v_ri (y := (nI ws1.length)) rfl ?_
          refine v_iald G 21 ws1.length (decAt dd_GN_reckon 85 rfl) (by decide) rfl rfl (by omega) ?_
          refine v_ri (y := nI (2 * t)) hs1 ?_
          refine v_aload_n G (decAt dd_GN_reckon 86 rfl) rfl ?_
          refine v_geta G (decAt dd_GN_reckon 87 rfl) f_GN_34 ?_
          refine v_aload_n G (decAt dd_GN_reckon 88 rfl) rfl ?_
          refine v_geti G (decAt dd_GN_reckon 89 rfl) f_GN_112 ?_
          refine v_ri (y := (nI ws1.length)) rfl ?_
          refine v_iald G 22 ws1.length (decAt dd_GN_reckon 90 rfl) (by decide) rfl rfl (by omega) ?_
          refine v_ri (y := nI h) hs2 ?_
          refine v_stg (up2_up2 _ _ _ _ _) ?_
          refine v_callVv0 G (As := [.ref (E.o 1), .int (nI (2 * t)), .int (nI h)]) (decAt dd_GN_reckon 91 rfl) k_GN_134 (c_GN_follow l hE (c := c) (ht := ht) (ws := ws1) (t := t) (h := h) (g := up2 g 3 14 (nI ws1.length)) (A := A1) ⟨(hfn 11 (by decide) (by decide)).trans hb11, (hfn 21 (by decide) (by decide)).trans hb21, (hfn 22 (by decide) (by decide)).trans hb22, by omega, h24b, by rw [hfn 19 (by decide) (by decide)]; exact hb19⟩ hlen hT hL (by rw [hfA 11 (by decide) (by decide) (by decide) (by decide) (by decide)]; exact hC) ((up2_ne (by decide)).trans hN) hW up2_self hR1.2 hR2.2 hI2.1 hI2.2.1) (by decide) rfl rfl rfl (Nat.le_of_ble_eq_true rfl) (by decide) rfl rfl (by decide) ?_
          rintro ρ9 g9 A9 n9 tx9 ⟨ws9, hI9, hR9, hR9', hm9, e1, e2, hfr9, e3, e4⟩
          replace e1 := e1.symm; subst e1; subst e2; replace e3 := e3.symm; subst e3; replace e4 := e4.symm; subst e4
          refine v_stg (up2_up2 _ _ _ _ _) ?_
          refine v_goto G 123 (decAt dd_GN_reckon 92 rfl) (by decide) ?_
          refine ih _ A9 _ ws9 _ (fun i a b c d e => (hfr9 i a b c e).trans (hfA i a b c d e)) hfn h23 h24 h24b (by rw [hfr9 23 (by decide) (by decide) (by decide) (by decide)]; exact hW) (Or.inl hI9) hR9 hR9' ?_
          simp only [List.length_cons] at hμ
          omega
  have J73 : ∀ (d i : Nat) (ρ1 : Nat → Nat) (A1 : Nat → Nat → Int32) (n1 : Nat → Nat), i + d = c.length → (∀ i, i ≠ 19 → i ≠ 21 → i ≠ 22 → i ≠ 23 → i ≠ 24 → A1 i = A i) → (∀ i, i ≠ 23 → i ≠ 24 → n1 i = n i) → n1 23 = 200 → n1 24 ≤ 256 → 2 * c.length ≤ n1 24 → (∀ j, j < 2 * c.length → A1 24 j = 0) → (∀ j lab, j < i → c[j]? = some (13, lab) → A1 23 lab.toNatClampNeg = nI (2 * j)) → V p l e ({ frames := 2, cells := 2, slots := 456, locals := 49 } : Room) s m args below meth c1 3 (Sy E DC AC s.heap ρ1 g A1 n1 tx) 2 456 (MQ below (QW E DC AC (fun r ρ' g' A' n' tx' => r = none ∧ DpI c ht (A' 19) ∧ (∀ k f, ¬ (k = 3 ∧ f = 14) → g' k f = g k f) ∧ (∀ i, i ≠ 19 → i ≠ 21 → i ≠ 22 → i ≠ 23 → i ≠ 24 → A' i = A i) ∧ (∀ i, i ≠ 23 → i ≠ 24 → n' i = n i) ∧ n' 23 = 200 ∧ n' 24 ≤ 256 ∧ tx' = tx)) args s 2 456 E.F) 73 [some (.ref (E.o 3)), some (.ref (E.o 1)), some (.int (nI (2 * i)))] [] := by
    intro d
    induction d with
    | zero =>
      intro i ρ1 A1 n1 hi hfA hfn h23 h24 h24b hz hW
      refine v_iload_n G (decAt dd_GN_reckon 41 rfl) rfl ?_
      refine v_aload_n G (decAt dd_GN_reckon 42 rfl) rfl ?_
      refine v_geti G (decAt dd_GN_reckon 43 rfl) f_GN_121 ?_
      refine v_ri (y := (nI (2 * c.length))) hN ?_
      refine v_icmp_ge G 112 (decAt dd_GN_reckon 44 rfl) (by decide) (fun c78 => ?_) (fun c78 => ?_)
      · skip
        refine v_aload_n G (decAt dd_GN_reckon 63 rfl) rfl ?_
        refine v_iconst G 0 (decAt dd_GN_reckon 64 rfl) (by decide) ?_
        refine v_puti G (decAt dd_GN_reckon 65 rfl) f_GN_112 rfl rfl rfl ?_
        refine v_aload_n G (decAt dd_GN_reckon 66 rfl) rfl ?_
        refine v_iconst G 0 (decAt dd_GN_reckon 67 rfl) (by decide) ?_
        refine v_iconst G 0 (decAt dd_GN_reckon 68 rfl) (by decide) ?_
        have hWh : WhI c (A1 23) := fun lab j hj => hW j lab (by have := lbl_lt hj; omega) (lbl_ok hj)
        have hcl : cnt (fun i => A1 24 (2 * i)) c.length ≤ c.length := cnt_le _ _
        have hI0 : RkI c ht (A1 24) (A1 19) [] (some 0) := ⟨fun i hi => Or.inl (hz _ (by omega)), fun x hx => (by cases hx), fun i t hi h => (by rw [hz _ (by omega)] at h; exact absurd h (by decide)), Or.inr (Or.inr rfl), by simp only [List.length_nil]; omega, fun i lab hi h => (by rw [hz _ (by omega)] at h; exact absurd h (by decide))⟩
        refine v_callVvk G (As := [.int 0, .int 0]) (decAt dd_GN_reckon 69 rfl) k_GN_130 (c_GN_way l hE (wm := 0) (g := up2 g 3 14 0) up2_self (by omega) ((hfn 21 (by decide) (by decide)).trans hb21) ((hfn 22 (by decide) (by decide)).trans hb22)) (by decide) rfl rfl rfl (Nat.le_of_ble_eq_true rfl) (by decide) rfl rfl (by decide) ?_
        refine v_stg (up2_up2 _ _ _ _ _) ?_
        exact J123 _ _ _ _ [(0, 0)] _ (fun i a b c d e => by rw [va_up_ne _ _ c, va_up_ne _ _ b]; exact hfA i a b c d e) hfn h23 h24 h24b hWh (Or.inr ⟨rfl, hI0⟩) ⟨rfl, trivial⟩ ⟨rfl, trivial⟩ (Nat.lt_succ_self _)
      · skip
        exact absurd (nI_le (by omega) (by omega)) c78
    | succ d ih =>
      intro i ρ1 A1 n1 hi hfA hfn h23 h24 h24b hz hW
      obtain ⟨⟨N, x⟩, hq⟩ : ∃ z, c[i]? = some z := ⟨c[i], List.getElem?_eq_getElem (by omega)⟩
      obtain ⟨q1, q2, q3⟩ := hC i N x hq
      rw [← hfA 11 (by decide) (by decide) (by decide) (by decide) (by decide)] at q1 q2
      obtain ⟨-, hao, h13, hlb2, -⟩ := hL i N x hq
      have h11 : n1 11 = 1000 := (hfn 11 (by decide) (by decide)).trans hb11
      refine v_iload_n G (decAt dd_GN_reckon 41 rfl) rfl ?_
      refine v_aload_n G (decAt dd_GN_reckon 42 rfl) rfl ?_
      refine v_geti G (decAt dd_GN_reckon 43 rfl) f_GN_121 ?_
      refine v_ri (y := (nI (2 * c.length))) hN ?_
      refine v_icmp_ge G 112 (decAt dd_GN_reckon 44 rfl) (by decide) (fun c78 => ?_) (fun c78 => ?_)
      · skip
        exact absurd c78 (nI_ge (by omega) (by omega))
      · skip
        refine v_aload_n G (decAt dd_GN_reckon 45 rfl) rfl ?_
        refine v_geta G (decAt dd_GN_reckon 46 rfl) f_GN_127 ?_
        refine v_iload_n G (decAt dd_GN_reckon 47 rfl) rfl ?_
        refine v_iald G 11 (2 * i) (decAt dd_GN_reckon 48 rfl) (by decide) rfl rfl (by omega) ?_
        refine v_ri (y := stv 2 N) q1 ?_
        refine v_bipush G 22 (decAt dd_GN_reckon 49 rfl) (by decide) ?_
        refine v_icmp_ne G 106 (decAt dd_GN_reckon 50 rfl) (by decide) (fun c89 => ?_) (fun c89 => ?_)
        · skip
          refine v_iinc_2 G (nI (2 * (i + 1))) (decAt dd_GN_reckon 61 rfl) ((nI_add (2 * i) 2)) (by decide) rfl ?_
          refine v_goto G 73 (decAt dd_GN_reckon 62 rfl) (by decide) ?_
          refine ih (i + 1) _ _ _ (by omega) hfA hfn h23 h24 h24b hz (fun j lab hj hjq => ?_)
          by_cases e : j = i
          · subst e
            rw [hq] at hjq
            cases hjq
            exact absurd rfl c89
          · exact hW j lab (by omega) hjq
        · skip
          have hN13 : N = 13 := stv2_inj N q3 13 (by omega) (by first | exact c89 | exact Classical.not_not.mp c89)
          subst hN13
          obtain ⟨y, hy1, hy2, hy3⟩ := inR_nI (argOK_lab hao (by omega))
          refine v_aload_n G (decAt dd_GN_reckon 51 rfl) rfl ?_
          refine v_geta G (decAt dd_GN_reckon 52 rfl) f_GN_37 ?_
          refine v_aload_n G (decAt dd_GN_reckon 53 rfl) rfl ?_
          refine v_geta G (decAt dd_GN_reckon 54 rfl) f_GN_127 ?_
          refine v_iload_n G (decAt dd_GN_reckon 55 rfl) rfl ?_
          refine v_iconst G 1 (decAt dd_GN_reckon 56 rfl) (by decide) ?_
          refine v_iadd G (decAt dd_GN_reckon 57 rfl) ?_
          refine v_ri (y := (nI (2 * i + 1))) (nI_1 _) ?_
          refine v_iald G 11 (2 * i + 1) (decAt dd_GN_reckon 58 rfl) (by decide) rfl rfl (by omega) ?_
          refine v_ri (y := nI y) (q2.trans hy2) ?_
          refine v_iload_n G (decAt dd_GN_reckon 59 rfl) rfl ?_
          refine v_iast G 23 y (decAt dd_GN_reckon 60 rfl) (by decide) rfl rfl (by omega) ?_
          refine v_iinc_2 G (nI (2 * (i + 1))) (decAt dd_GN_reckon 61 rfl) ((nI_add (2 * i) 2)) (by decide) rfl ?_
          refine v_goto G 73 (decAt dd_GN_reckon 62 rfl) (by decide) ?_
          refine ih (i + 1) _ _ _ (by omega) (fun j a b c d e => by rw [va_up_ne _ _ d]; exact hfA j a b c d e) hfn h23 h24 h24b hz (fun j lab hj hjq => ?_)
          show va_up (A1 23) y (nI (2 * i)) lab.toNatClampNeg = nI (2 * j)
          by_cases e : j = i
          · subst e
            rw [hq] at hjq
            cases hjq
            rw [hy3]; exact va_up_self _ _ _
          · rw [va_up_ne _ _ (fun z => e ?_)]
            · exact hW j lab (by omega) hjq
            · obtain ⟨-, hao2, h132, -, -⟩ := hL j 13 lab hjq
              have hlx : lab = x := i32_cl (argOK_lab hao2 (by omega)) (argOK_lab hao (by omega)) (z.trans hy3.symm)
              have h1 := h132 rfl
              rw [hlx, h13 rfl] at h1
              exact (Option.some.inj h1).symm
  have J50 : ∀ (d i : Nat) (ρ1 : Nat → Nat) (A1 : Nat → Nat → Int32) (n1 : Nat → Nat), i + d = 2 * c.length → (∀ i, i ≠ 19 → i ≠ 21 → i ≠ 22 → i ≠ 23 → i ≠ 24 → A1 i = A i) → (∀ i, i ≠ 23 → i ≠ 24 → n1 i = n i) → n1 23 = 200 → n1 24 ≤ 256 → 2 * c.length ≤ n1 24 → (∀ j, j < i → A1 24 j = 0) → V p l e ({ frames := 2, cells := 2, slots := 456, locals := 49 } : Room) s m args below meth c1 3 (Sy E DC AC s.heap ρ1 g A1 n1 tx) 2 456 (MQ below (QW E DC AC (fun r ρ' g' A' n' tx' => r = none ∧ DpI c ht (A' 19) ∧ (∀ k f, ¬ (k = 3 ∧ f = 14) → g' k f = g k f) ∧ (∀ i, i ≠ 19 → i ≠ 21 → i ≠ 22 → i ≠ 23 → i ≠ 24 → A' i = A i) ∧ (∀ i, i ≠ 23 → i ≠ 24 → n' i = n i) ∧ n' 23 = 200 ∧ n' 24 ≤ 256 ∧ tx' = tx)) args s 2 456 E.F) 50 [some (.ref (E.o 3)), some (.ref (E.o 1)), some (.int (nI i))] [] := by
    intro d
    induction d with
    | zero =>
      intro i ρ1 A1 n1 hi hfA hfn h23 h24 h24b hz
      refine v_iload_n G (decAt dd_GN_reckon 28 rfl) rfl ?_
      refine v_aload_n G (decAt dd_GN_reckon 29 rfl) rfl ?_
      refine v_geti G (decAt dd_GN_reckon 30 rfl) f_GN_121 ?_
      refine v_ri (y := (nI (2 * c.length))) hN ?_
      refine v_icmp_ge G 71 (decAt dd_GN_reckon 31 rfl) (by decide) (fun c55 => ?_) (fun c55 => ?_)
      · skip
        refine v_iconst G 0 (decAt dd_GN_reckon 39 rfl) (by decide) ?_
        refine v_istore_2 G (decAt dd_GN_reckon 40 rfl) (by decide) rfl ?_
        exact J73 c.length 0 _ A1 _ (by omega) hfA hfn h23 h24 h24b (fun j hj => hz j (by omega)) (fun j lab hj => absurd hj (by omega))
      · skip
        exact absurd (nI_le (by omega) (by omega)) c55
    | succ d ih =>
      intro i ρ1 A1 n1 hi hfA hfn h23 h24 h24b hz
      refine v_iload_n G (decAt dd_GN_reckon 28 rfl) rfl ?_
      refine v_aload_n G (decAt dd_GN_reckon 29 rfl) rfl ?_
      refine v_geti G (decAt dd_GN_reckon 30 rfl) f_GN_121 ?_
      refine v_ri (y := (nI (2 * c.length))) hN ?_
      refine v_icmp_ge G 71 (decAt dd_GN_reckon 31 rfl) (by decide) (fun c55 => ?_) (fun c55 => ?_)
      · skip
        exact absurd c55 (nI_ge (by omega) (by omega))
      · skip
        refine v_aload_n G (decAt dd_GN_reckon 32 rfl) rfl ?_
        refine v_geta G (decAt dd_GN_reckon 33 rfl) f_GN_40 ?_
        refine v_iload_n G (decAt dd_GN_reckon 34 rfl) rfl ?_
        refine v_iconst G 0 (decAt dd_GN_reckon 35 rfl) (by decide) ?_
        refine v_zast G 24 i (decAt dd_GN_reckon 36 rfl) (by decide) rfl rfl (by omega) rfl ?_
        refine v_iinc_2 G (nI (i + 1)) (decAt dd_GN_reckon 37 rfl) ((nI_1 _)) (by decide) rfl ?_
        refine v_goto G 50 (decAt dd_GN_reckon 38 rfl) (by decide) ?_
        refine ih (i + 1) _ _ _ (by omega) (fun j a b c d e => by rw [va_up_ne _ _ e]; exact hfA j a b c d e) hfn h23 h24 h24b (fun j hj => ?_)
        show va_up (A1 24) i 0 j = 0
        by_cases e : j = i
        · subst e; exact va_up_self _ _ _
        · rw [va_up_ne _ _ e]; exact hz j (by omega)
  have J24 : ∀ (ρ1 : Nat → Nat) (A1 : Nat → Nat → Int32) (n1 : Nat → Nat) (x2 : Option Value), (∀ i, i ≠ 19 → i ≠ 21 → i ≠ 22 → i ≠ 23 → i ≠ 24 → A1 i = A i) → (∀ i, i ≠ 24 → n1 i = n i) → n1 24 ≤ 256 → 2 * c.length ≤ n1 24 → V p l e ({ frames := 2, cells := 2, slots := 456, locals := 49 } : Room) s m args below meth c1 3 (Sy E DC AC s.heap ρ1 g A1 n1 tx) 1 256 (MQ below (QW E DC AC (fun r ρ' g' A' n' tx' => r = none ∧ DpI c ht (A' 19) ∧ (∀ k f, ¬ (k = 3 ∧ f = 14) → g' k f = g k f) ∧ (∀ i, i ≠ 19 → i ≠ 21 → i ≠ 22 → i ≠ 23 → i ≠ 24 → A' i = A i) ∧ (∀ i, i ≠ 23 → i ≠ 24 → n' i = n i) ∧ n' 23 = 200 ∧ n' 24 ≤ 256 ∧ tx' = tx)) args s 2 456 E.F) 24 [some (.ref (E.o 3)), some (.ref (E.o 1)), x2] [] := by
    intro ρ1 A1 n1 x2 hfA hfn0 h24 h24b
    have hb23' : n1 23 = 64 ∨ n1 23 = 200 := by rw [hfn0 23 (by decide)]; exact hb23
    have J50' : ∀ (ρ1 : Nat → Nat) (A1 : Nat → Nat → Int32) (n1 : Nat → Nat) (x2 : Option Value), (∀ i, i ≠ 19 → i ≠ 21 → i ≠ 22 → i ≠ 23 → i ≠ 24 → A1 i = A i) → (∀ i, i ≠ 23 → i ≠ 24 → n1 i = n i) → n1 23 = 200 → n1 24 ≤ 256 → 2 * c.length ≤ n1 24 → V p l e ({ frames := 2, cells := 2, slots := 456, locals := 49 } : Room) s m args below meth c1 3 (Sy E DC AC s.heap ρ1 g A1 n1 tx) 2 456 (MQ below (QW E DC AC (fun r ρ' g' A' n' tx' => r = none ∧ DpI c ht (A' 19) ∧ (∀ k f, ¬ (k = 3 ∧ f = 14) → g' k f = g k f) ∧ (∀ i, i ≠ 19 → i ≠ 21 → i ≠ 22 → i ≠ 23 → i ≠ 24 → A' i = A i) ∧ (∀ i, i ≠ 23 → i ≠ 24 → n' i = n i) ∧ n' 23 = 200 ∧ n' 24 ≤ 256 ∧ tx' = tx)) args s 2 456 E.F) 48 [some (.ref (E.o 3)), some (.ref (E.o 1)), x2] [] := by
      intro ρ1 A1 n1 x2 hfA hfn h23 h24 h24b
      refine v_iconst G 0 (decAt dd_GN_reckon 26 rfl) (by decide) ?_
      refine v_istore_2 G (decAt dd_GN_reckon 27 rfl) (by decide) rfl ?_
      exact J50 (2 * c.length) 0 _ A1 _ (by omega) hfA hfn h23 h24 h24b (fun j hj => absurd hj (by omega))
    refine v_aload_n G (decAt dd_GN_reckon 13 rfl) rfl ?_
    refine v_geta G (decAt dd_GN_reckon 14 rfl) f_GN_37 ?_
    refine v_alen G 23 (decAt dd_GN_reckon 15 rfl) (by decide) ?_
    rcases hb23' with hb23' | hb23'
    · skip
      refine v_ri (y := nI 64) (by rw [hb23']) ?_
      refine v_aload_n G (decAt dd_GN_reckon 16 rfl) rfl ?_
      refine v_geti G (decAt dd_GN_reckon 17 rfl) f_GN_126 ?_
      refine v_ri (y := (nI 100)) hlb ?_
      refine v_icmp_ge G 48 (decAt dd_GN_reckon 18 rfl) (by decide) (fun c33 => absurd c33 (by decide)) (fun _ => ?_)
      refine v_aload_n G (decAt dd_GN_reckon 19 rfl) rfl ?_
      refine v_iconst G 2 (decAt dd_GN_reckon 20 rfl) (by decide) ?_
      refine v_aload_n G (decAt dd_GN_reckon 21 rfl) rfl ?_
      refine v_geti G (decAt dd_GN_reckon 22 rfl) f_GN_126 ?_
      refine v_ri (y := (nI 100)) hlb ?_
      refine v_imul G (decAt dd_GN_reckon 23 rfl) ?_
      refine v_ri (y := (nI 200)) rfl ?_
      refine v_fresh G 40 200 (decAt dd_GN_reckon 24 rfl) (decAt dd_GN_reckon 25 rfl) tm_51 rfl rfl (by decide) kd40 rfl (by decide) (by decide) (by decide) (by decide) f_GN_37 rfl (fun _ => rfl) (fun _ => rfl) (by decide) rfl (by decide +kernel) fun q => ?_
      exact J50' (va_up ρ1 23 q) _ _ _ (fun i a b c d e => by rw [va_up_ne _ _ d]; exact hfA i a b c d e) (fun i a b => by rw [va_up_ne _ _ a]; exact hfn0 i b) (va_up_self _ _ _) (by rw [va_up_ne _ _ (by decide)]; exact h24) (by rw [va_up_ne _ _ (by decide)]; exact h24b)
    · skip
      refine v_ri (y := nI 200) (by rw [hb23']) ?_
      refine v_aload_n G (decAt dd_GN_reckon 16 rfl) rfl ?_
      refine v_geti G (decAt dd_GN_reckon 17 rfl) f_GN_126 ?_
      refine v_ri (y := (nI 100)) hlb ?_
      refine v_icmp_ge G 48 (decAt dd_GN_reckon 18 rfl) (by decide) (fun _ => ?_) (fun c33 => absurd c33 (by decide))
      refine v_room 2 456 (by decide) (by decide) ?_
      exact J50' _ _ _ _ hfA (fun i a b => hfn0 i b) hb23' h24 h24b
  refine v_aload_n G (decAt dd_GN_reckon 0 rfl) rfl ?_
  refine v_geta G (decAt dd_GN_reckon 1 rfl) f_GN_40 ?_
  refine v_alen G 24 (decAt dd_GN_reckon 2 rfl) (by decide) ?_
  refine v_aload_n G (decAt dd_GN_reckon 3 rfl) rfl ?_
  refine v_geti G (decAt dd_GN_reckon 4 rfl) f_GN_121 ?_
  refine v_ri (y := (nI (2 * c.length))) hN ?_
  refine v_icmp_ge G 24 (decAt dd_GN_reckon 5 rfl) (by decide) (fun c9 => ?_) (fun c9 => ?_)
  · skip
    refine v_room 1 256 (by decide) (by decide) ?_
    exact J24 _ A n _ (fun _ _ _ _ _ _ => rfl) (fun _ _ => rfl) hb24 (by have := (nI_leI (a := 2 * c.length) (b := n 24) (by omega) (by omega)).mp c9; omega)
  · skip
    refine v_aload_n G (decAt dd_GN_reckon 6 rfl) rfl ?_
    refine v_iconst G 2 (decAt dd_GN_reckon 7 rfl) (by decide) ?_
    refine v_aload_n G (decAt dd_GN_reckon 8 rfl) rfl ?_
    refine v_geti G (decAt dd_GN_reckon 9 rfl) f_GN_121 ?_
    refine v_ri (y := (nI (2 * c.length))) hN ?_
    refine v_imul G (decAt dd_GN_reckon 10 rfl) ?_
    refine v_ri (y := (nI (2 * (2 * c.length)))) (nI_dbl _) ?_
    refine v_fresh G 41 (2 * (2 * c.length)) (decAt dd_GN_reckon 11 rfl) (decAt dd_GN_reckon 12 rfl) tm_83 rfl rfl (by decide) kd41 rfl (by omega) (by show 2 * (2 * c.length) * 1 ≤ _; omega) (by decide) (by show 0 + 2 * (2 * c.length) ≤ 456; omega) f_GN_40 rfl (fun _ => rfl) (fun _ => rfl) (by decide) rfl (by decide +kernel) fun q => ?_
    refine v_room 1 256 (by decide) (by omega) ?_
    exact J24 _ _ _ _ (fun i _ _ _ _ e => va_up_ne _ _ e) (fun i e => va_up_ne _ _ e) (by rw [va_up_self]; omega) (by rw [va_up_self]; omega)
