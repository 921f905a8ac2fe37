/-! the lines run as the code does: the whole -/
theorem ifn {α : Type} {p : Prop} [Decidable p] (h : ¬ p) (x y : α) : (if p then x else y) = y := if_neg h
theorem mX_op {j : Nat} (hj : j < 11) (a b : Int32) (st : Nat → Int32) (fu : Nat) : mX (20 + j) a b st fu = some (if (j = 3 ∨ j = 4) ∧ a = 0 then (4, a, st, fu) else (0, opr j b a, st, fu)) := by
  unfold mX
  rw [if_neg (by omega), if_neg (by omega), if_neg (by omega), if_neg (by omega), if_neg (by omega), if_neg (by omega), if_neg (by omega), if_neg (by omega), if_neg (by omega), if_neg (by omega), if_pos (by omega), show 20 + j - 20 = j by omega]
  by_cases h : (j = 3 ∨ j = 4) ∧ a = 0
  · rw [if_pos h, if_pos ⟨by omega, h.2⟩]
  · rw [if_neg h, if_neg (fun z => h ⟨by omega, z.2⟩)]
theorem mX_rel {j : Nat} (hj : j < 6) (a b : Int32) (st : Nat → Int32) (fu : Nat) : mX (40 + j) a b st fu = some (0, rI (rel j b a), st, fu) := by
  unfold mX
  rw [if_neg (by omega), if_neg (by omega), if_neg (by omega), if_neg (by omega), if_neg (by omega), if_neg (by omega), if_neg (by omega), if_neg (by omega), if_neg (by omega), if_neg (by omega), if_neg (by omega), if_pos (by omega), show 40 + j - 40 = j by omega]
section SIM4
variable {F : Lns} {G : List Int32} {q : GS} {val row st loc wrd loc' wrd' : Nat → Int32} {a b : Int32} {fu : Nat}
theorem i_plain {n dl ev : Nat} {k fo : Int32} {σ σ' : List Int32} (hG : Grt F G) (hn : PlainN n) (hn20 : n ≤ 20) (h13 : n ≠ 13) (h : Pre F G (gone n k fo dl q)) (hg : pqG q + pqW q ≤ 88) (hd : q.d ≤ 60) (hl : q.d = σ.length) (hV : VR q val a row st) (hR : RowIs val σ) (hS : RelS st loc wrd) (hm : mdo n k σ loc wrd = some (ev, σ', loc', wrd')) : (ev = 0 → Good F (gone n k fo dl q) σ' loc' wrd' (pos q) a b row st fu fu) ∧ (0 < ev → EndM F (pos q) a b row st fu ev 0 loc' wrd' fu) := by
  have n0 : ∀ {P : Prop}, (0 < 0 → P) := fun z => absurd z (by decide)
  have hn' : n = 0 ∨ n = 1 ∨ n = 2 ∨ n = 3 ∨ n = 4 ∨ n = 5 ∨ n = 6 ∨ n = 7 ∨ n = 8 ∨ n = 9 ∨ n = 14 ∨ n = 19 ∨ n = 20 := by unfold PlainN at hn; omega
  rcases hn' with rfl | rfl | rfl | rfl | rfl | rfl | rfl | rfl | rfl | rfl | rfl | rfl | rfl
  · first | rw [mdo_0] at hm | rw [mdo_1] at hm | rw [mdo_2] at hm | rw [mdo_3] at hm | rw [mdo_4] at hm | rw [mdo_7] at hm | rw [mdo_8] at hm | rw [mdo_9] at hm | rw [mdo_19] at hm | rw [mdo_20] at hm
    split at hm
    · cases hm
      exact ⟨fun _ => i_push hG h hg hd hl hV hR hS (Or.inl rfl), n0⟩
    · cases hm
  · first | rw [mdo_0] at hm | rw [mdo_1] at hm | rw [mdo_2] at hm | rw [mdo_3] at hm | rw [mdo_4] at hm | rw [mdo_7] at hm | rw [mdo_8] at hm | rw [mdo_9] at hm | rw [mdo_19] at hm | rw [mdo_20] at hm
    split at hm
    · next z =>
      cases hm
      obtain ⟨j, hj, -, e⟩ := inR_nI z.2
      exact ⟨fun _ => i_push hG h hg hd hl hV hR hS (Or.inr ⟨k, rfl, z.2, hS.2 _ (by omega)⟩), n0⟩
    · cases hm
  · cases σ with
    | nil => cases hm
    | cons v r =>
      first | rw [mdo_0] at hm | rw [mdo_1] at hm | rw [mdo_2] at hm | rw [mdo_3] at hm | rw [mdo_4] at hm | rw [mdo_7] at hm | rw [mdo_8] at hm | rw [mdo_9] at hm | rw [mdo_19] at hm | rw [mdo_20] at hm
      split at hm
      · next z =>
        cases hm
        exact ⟨fun _ => i_stores hG z h hg hd hl hV hR hS, n0⟩
      · cases hm
  · cases σ with
    | nil => cases hm
    | cons v r =>
      first | rw [mdo_0] at hm | rw [mdo_1] at hm | rw [mdo_2] at hm | rw [mdo_3] at hm | rw [mdo_4] at hm | rw [mdo_7] at hm | rw [mdo_8] at hm | rw [mdo_9] at hm | rw [mdo_19] at hm | rw [mdo_20] at hm
      by_cases hw : isW v.toInt = true
      · rw [if_pos hw] at hm
        cases hm
        exact ⟨fun _ => i_single (z := 1) (j := 1) hG rfl (by omega) h hg hd hl hV hR hS (fun b => by unfold mX; rw [if_pos rfl, if_pos hw, hS.1 _ (isW_cl hw).2]), n0⟩
      · rw [if_neg hw] at hm
        cases hm
        refine ⟨fun z => absurd z (by decide), fun _ => ?_⟩
        obtain ⟨N, hN⟩ := e_single (z := 1) (j := 1) (e := 2) (b := b) (fu := fu) hG rfl (by omega) h hg hd hl hV hR (fun b => by unfold mX; rw [if_pos rfl, if_neg hw])
        exact ⟨N, st, hN, hS⟩
  · cases σ with
    | nil => cases hm
    | cons y σ =>
      cases σ with
      | nil => cases hm
      | cons x r =>
        first | rw [mdo_0] at hm | rw [mdo_1] at hm | rw [mdo_2] at hm | rw [mdo_3] at hm | rw [mdo_4] at hm | rw [mdo_7] at hm | rw [mdo_8] at hm | rw [mdo_9] at hm | rw [mdo_19] at hm | rw [mdo_20] at hm
        obtain ⟨g1, g2⟩ := i_indirect (b := b) (fu := fu) hG h hg hd hl hV hR hS
        by_cases hw : isW y.toInt = true
        · rw [if_pos hw] at hm
          cases hm
          exact ⟨fun _ => g1 hw, n0⟩
        · rw [if_neg hw] at hm
          cases hm
          exact ⟨fun z => absurd z (by decide), fun _ => g2 hw⟩
  · cases σ with
    | nil => cases hm
    | cons v r =>
      cases hm
      exact ⟨fun _ => i_single (z := 2) (j := 2) hG rfl (by omega) h hg hd hl hV hR hS (fun b => by unfold mX; rw [if_neg (by decide), if_pos rfl]), n0⟩
  · cases σ with
    | nil => cases hm
    | cons v r =>
      cases hm
      exact ⟨fun _ => i_single (z := 3) (j := 3) hG rfl (by omega) h hg hd hl hV hR hS (fun b => by unfold mX; rw [if_neg (by decide), if_neg (by decide), if_pos rfl]), n0⟩
  · cases σ with
    | nil => cases hm
    | cons y σ =>
      cases σ with
      | nil => cases hm
      | cons x r =>
        first | rw [mdo_0] at hm | rw [mdo_1] at hm | rw [mdo_2] at hm | rw [mdo_3] at hm | rw [mdo_4] at hm | rw [mdo_7] at hm | rw [mdo_8] at hm | rw [mdo_9] at hm | rw [mdo_19] at hm | rw [mdo_20] at hm
        split at hm
        · next z =>
          obtain ⟨j, hj, e1, e2⟩ := inR_nI z
          have hz : 20 + k = nI (20 + j) := by rw [e1]; exact nI_add 20 j
          have hk : (k = 3 ∨ k = 4) ↔ (j = 3 ∨ j = 4) := by
            rw [e1]
            exact or_congr (nI_eq (a := j) (b := 3) (by omega) (by omega)) (nI_eq (a := j) (b := 4) (by omega) (by omega))
          by_cases hc : (k = 3 ∨ k = 4) ∧ y = 0
          · rw [if_pos hc] at hm
            cases hm
            refine ⟨fun z => absurd z (by decide), fun _ => ?_⟩
            obtain ⟨N, hN⟩ := e_pair (z := 20 + k) (j := 20 + j) (e := 3) (b := b) (fu := fu) hG hz (by omega) h hg hd hl hV hR (by rw [mX_op hj, if_pos ⟨hk.mp hc.1, hc.2⟩])
            exact ⟨N, st, hN, hS⟩
          · rw [if_neg hc] at hm
            cases hm
            exact ⟨fun _ => i_pair (z := 20 + k) (j := 20 + j) hG hz (by omega) h hg hd hl hV hR hS (by rw [mX_op hj, if_neg (fun z => hc ⟨hk.mpr z.1, z.2⟩), e2]), n0⟩
        · cases hm
  · cases σ with
    | nil => cases hm
    | cons y σ =>
      cases σ with
      | nil => cases hm
      | cons x r =>
        first | rw [mdo_0] at hm | rw [mdo_1] at hm | rw [mdo_2] at hm | rw [mdo_3] at hm | rw [mdo_4] at hm | rw [mdo_7] at hm | rw [mdo_8] at hm | rw [mdo_9] at hm | rw [mdo_19] at hm | rw [mdo_20] at hm
        split at hm
        · next z =>
          obtain ⟨j, hj, e1, e2⟩ := inR_nI z
          cases hm
          exact ⟨fun _ => i_pair (z := 40 + k) (j := 40 + j) hG (by rw [e1]; exact nI_add 40 j) (by omega) h hg hd hl hV hR hS (by rw [mX_rel hj, e2]), n0⟩
        · cases hm
  · cases σ with
    | nil => cases hm
    | cons y σ =>
      cases σ with
      | nil => cases hm
      | cons x r =>
        first | rw [mdo_0] at hm | rw [mdo_1] at hm | rw [mdo_2] at hm | rw [mdo_3] at hm | rw [mdo_4] at hm | rw [mdo_7] at hm | rw [mdo_8] at hm | rw [mdo_9] at hm | rw [mdo_19] at hm | rw [mdo_20] at hm
        split at hm
        · next z =>
          obtain ⟨j, hj, e1, e2⟩ := inR_nI z
          cases hm
          exact ⟨fun _ => i_chain (k := k) (j := 40 + j) hG (by rw [e1]; exact nI_add 40 j) (by omega) h hg hd hl hV hR hS (by rw [mX_rel hj, e2]), n0⟩
        · cases hm
  · cases σ with
    | nil => cases hm
    | cons v r =>
      cases hm
      refine ⟨fun _ => ⟨a, b, row, st, val, Sps.rf, Or.inl ?_, hR.2, hS⟩, n0⟩
      have he : q.d = σ'.length + 1 := hl
      show VU q.kf val row st (q.d - 1)
      rcases hV with hV | ⟨e', he', h5, ha, hV⟩
      · exact fun j hj => hV j (by omega)
      · exact fun j hj => hV j (by omega)
  · cases σ with
    | nil => cases hm
    | cons y σ =>
      cases σ with
      | nil => cases hm
      | cons x r =>
        first | rw [mdo_0] at hm | rw [mdo_1] at hm | rw [mdo_2] at hm | rw [mdo_3] at hm | rw [mdo_4] at hm | rw [mdo_7] at hm | rw [mdo_8] at hm | rw [mdo_9] at hm | rw [mdo_19] at hm | rw [mdo_20] at hm
        by_cases hw : isW (wAt x y) = true
        · rw [if_pos hw] at hm
          cases hm
          have hw2 : 0 ≤ wAt x y ∧ wAt x y < 64 := of_decide_eq_true hw
          exact ⟨fun _ => i_pair (z := 6) (j := 6) hG rfl (by omega) h hg hd hl hV hR hS (by unfold mX; rw [if_neg (by decide), if_neg (by decide), if_neg (by decide), if_neg (by decide), if_neg (by decide), if_pos rfl, if_pos hw, hS.1 _ (by omega)]), n0⟩
        · rw [if_neg hw] at hm
          cases hm
          refine ⟨fun z => absurd z (by decide), fun _ => ?_⟩
          obtain ⟨N, hN⟩ := e_pair (z := 6) (j := 6) (e := 2) (b := b) (fu := fu) hG rfl (by omega) h hg hd hl hV hR (by unfold mX; rw [if_neg (by decide), if_neg (by decide), if_neg (by decide), if_neg (by decide), if_neg (by decide), if_pos rfl, if_neg hw])
          exact ⟨N, st, hN, hS⟩
  · cases σ with
    | nil => cases hm
    | cons y σ =>
      cases σ with
      | nil => cases hm
      | cons x σ =>
        cases σ with
        | nil => cases hm
        | cons v r =>
          first | rw [mdo_0] at hm | rw [mdo_1] at hm | rw [mdo_2] at hm | rw [mdo_3] at hm | rw [mdo_4] at hm | rw [mdo_7] at hm | rw [mdo_8] at hm | rw [mdo_9] at hm | rw [mdo_19] at hm | rw [mdo_20] at hm
          obtain ⟨g1, g2⟩ := i_bytes (b := b) (fu := fu) hG h hg hd hl hV hR hS
          by_cases hw : isW (wAt x y) = true
          · rw [if_pos hw] at hm
            cases hm
            exact ⟨fun _ => g1 hw, n0⟩
          · rw [if_neg hw] at hm
            cases hm
            exact ⟨fun z => absurd z (by decide), fun _ => g2 hw⟩
end SIM4
-- the whole text
theorem gfold_s {c : Cod} {ht : Nat → Option Nat} {i N : Nat} {a : Int32} (hc : c[i]? = some (N, a)) : gfold c ht (i + 1) = gone N a (match c[i + 1]? with | some (_, k) => k | none => 0) ((ht i).getD 0) (gfold c ht i) := by
  rw [gfold]
  unfold gstep
  rw [hc]
  rfl
theorem gone13 (a fo : Int32) (dl : Nat) (q : GS) : gone 13 a fo dl q = gline 14 a (gre true (glab dl (if q.re = true then gkeepAll q else q))) := by
  show ggoes 13 a dl q = _
  unfold ggoes
  rw [if_neg (by decide), if_pos rfl]
theorem ext13 (q : GS) : Ext q (if q.re = true then gkeepAll q else q) := by
  split
  · exact Ext.keepAll q
  · exact Ext.rf q
theorem fold_ext {c : Cod} {ht : Nat → Option Nat} (hL : LabC c) (i : Nat) : ∀ d, i + d ≤ c.length → (∃ x, (gfold c ht (i + d)).ls = (gfold c ht i).ls ++ x ∧ ∀ y, y ∈ x → y.1 = 14 → ∃ i', i ≤ i' ∧ i' < i + d ∧ c[i']? = some (13, y.2)) ∧ ∃ x, (gfold c ht (i + d)).gr = (gfold c ht i).gr ++ x
  | 0, _ => ⟨⟨[], (List.append_nil _).symm, fun y hy => by cases hy⟩, [], (List.append_nil _).symm⟩
  | d + 1, h => by
    obtain ⟨⟨x, e, hx⟩, y, e2⟩ := fold_ext (ht := ht) hL i d (by omega)
    have hg := List.getElem?_eq_getElem (show i + d < c.length by omega)
    generalize hxx : c[i + d] = xx at hg
    obtain ⟨N, a⟩ := xx
    rw [show i + (d + 1) = i + d + 1 by omega, gfold_s hg]
    by_cases h13 : N = 13
    · subst h13
      rw [gone13]
      obtain ⟨⟨x', e', hx'⟩, y', e2'⟩ := ext13 (gfold c ht (i + d))
      refine ⟨⟨x ++ (x' ++ [(14, a)]), ?_, ?_⟩, y ++ y', ?_⟩
      · show (if (gfold c ht (i + d)).re = true then gkeepAll (gfold c ht (i + d)) else gfold c ht (i + d)).ls ++ [(14, a)] = _
        rw [e', e]
        simp only [List.append_assoc]
      · intro z hz h14
        rcases List.mem_append.mp hz with h1 | h1
        · obtain ⟨i', q1, q2, q3⟩ := hx z h1 h14
          exact ⟨i', q1, by omega, q3⟩
        · rcases List.mem_append.mp h1 with h2 | h2
          · exact absurd h14 (hx' z h2)
          · rw [List.mem_singleton.mp h2]
            exact ⟨i + d, by omega, by omega, hg⟩
      · show (if (gfold c ht (i + d)).re = true then gkeepAll (gfold c ht (i + d)) else gfold c ht (i + d)).gr = _
        rw [e2', e2, List.append_assoc]
    · obtain ⟨⟨x', e', hx'⟩, y', e2'⟩ := gone_ext (gfold c ht (i + d)) N ((ht (i + d)).getD 0) a (match c[i + d + 1]? with | some (_, k) => k | none => 0) (hL _ _ _ hg).1 h13
      refine ⟨⟨x ++ x', by rw [e', e, List.append_assoc], fun z hz h14 => ?_⟩, y ++ y', by rw [e2', e2, List.append_assoc]⟩
      rcases List.mem_append.mp hz with h1 | h1
      · obtain ⟨i', q1, q2, q3⟩ := hx z h1 h14
        exact ⟨i', q1, by omega, q3⟩
      · exact absurd h14 (hx' z h1)
theorem dat_ext (q : GS) (k : Nat) : ∀ d, ∃ x, (gdat q (k + d)).ls = (gdat q k).ls ++ x ∧ ∀ y, y ∈ x → y.1 = 14 → ∃ g, k ≤ g ∧ g < k + d ∧ y.2 = nI (100 + g)
  | 0 => ⟨[], (List.append_nil _).symm, fun y hy => by cases hy⟩
  | d + 1 => by
    obtain ⟨x, e, hx⟩ := dat_ext q k d
    refine ⟨x ++ [(14, nI (100 + (k + d))), (11, q.gr.getD (k + d) 0)], ?_, fun z hz h14 => ?_⟩
    · show ((gdat q (k + d)).ls ++ [(14, nI (100 + (k + d)))]) ++ [(11, q.gr.getD (k + d) 0)] = _
      rw [e]
      simp
    · rcases List.mem_append.mp hz with h1 | h1
      · obtain ⟨g, q1, q2, q3⟩ := hx z h1 h14
        exact ⟨g, q1, by omega, q3⟩
      · simp only [List.mem_cons, List.not_mem_nil, or_false] at h1
        rcases h1 with rfl | rfl
        · exact ⟨k + d, by omega, by omega, rfl⟩
        · cases h14
theorem ls_len (ls : Lns) : ls.length ≤ (txt ls).length := by
  induction ls with
  | nil => exact Nat.le_refl _
  | cons x r ih =>
    show r.length + 1 ≤ (lin x ++ txt r).length
    rw [List.length_append]
    have : 1 ≤ (lin x).length := by unfold lin; simp only [List.length_append, List.length_cons, List.length_nil]; omega
    omega
theorem nl_le (ls : Lns) : (nl ls).length ≤ ls.length := List.length_filter_le ..
section WHOLE
variable {c : Cod} {ht : Nat → Option Nat}
theorem pre_fold (hL : LabC c) {i : Nat} (hi : i ≤ c.length) : Pre (gmake c ht).ls (gfold c ht c.length).gr (gfold c ht i) := by
  obtain ⟨⟨x, e, -⟩, y, e2⟩ := fold_ext (ht := ht) hL i (c.length - i) (by omega)
  rw [show i + (c.length - i) = c.length by omega] at e e2
  obtain ⟨x', e', -⟩ := dat_ext (gfold c ht c.length) 0 (gfold c ht c.length).gr.length
  refine ⟨⟨x ++ x', ?_⟩, y, e2⟩
  unfold gmake
  rw [Nat.zero_add] at e'
  rw [e']
  show (gfold c ht c.length).ls ++ x' = _
  rw [e, List.append_assoc]
theorem grt_make (hL : LabC c) (hT : Typ c ht) (hall : ∀ i, i < c.length → SR c i) (hlen : c.length ≤ 64) : Grt (gmake c ht).ls (gfold c ht c.length).gr := by
  intro g v hg
  obtain ⟨-, -, -, -, hf⟩ := fit_make hL hT hall hlen
  have hI := giv_all hL hT hall hlen c.length (Nat.le_refl _)
  have hG64 : (gfold c ht c.length).gr.length ≤ 64 := (giv_fit hI hlen).2
  generalize hQ : gfold c ht c.length = Q at *
  have hgl := (List.getElem?_eq_some_iff.mp hg).1
  obtain ⟨x, e, hx⟩ := dat_ext Q (g + 1) (Q.gr.length - (g + 1))
  rw [show g + 1 + (Q.gr.length - (g + 1)) = Q.gr.length by omega] at e
  have hd : Q.gr.getD g 0 = v := by rw [List.getD_eq_getElem?_getD, hg]; rfl
  have eF : (gmake c ht).ls = (gdat Q g).ls ++ (14, nI (100 + g)) :: ((11, v) :: x) := by
    unfold gmake
    rw [hQ, e]
    show ((gdat Q g).ls ++ [(14, nI (100 + g))]) ++ [(11, Q.gr.getD g 0)] ++ x = _
    rw [hd]
    simp
  have hno : ∀ y, y ∈ ((11, v) :: x : Lns) → y ≠ (14, nI (100 + g)) := by
    intro y hy hz
    rcases List.mem_cons.mp hy with h1 | h1
    · rw [h1] at hz; cases hz
    · obtain ⟨g', q1, q2, q3⟩ := hx y h1 (by rw [hz])
      rw [hz] at q3
      have := (nI_eq (a := 100 + g) (b := 100 + g') (by omega) (by omega)).mp q3
      omega
  refine ⟨(nl (gdat Q g).ls).length, ?_, ?_, ?_⟩
  · have h1 := nl_le (gdat Q g).ls
    have h2 := ls_len (gmake c ht).ls
    rw [eF, List.length_append] at h2
    rw [eF] at hf
    omega
  · rw [eF]; exact la_at hno
  · have hla : ∀ f, ((nl (gmake c ht).ls).map (cmp1 f))[(nl (gdat Q g).ls).length]? = some (11, v) := fun f => by
      rw [eF, nl_app, nl_n, nl_y (by decide), List.getElem?_map, List.getElem?_append_right (Nat.le_refl _), Nat.sub_self]
      rfl
    exact hla _
theorem lab_make (hL : LabC c) (hT : Typ c ht) (hall : ∀ i, i < c.length → SR c i) (hlen : c.length ≤ 64) {k : Int32} {t : Nat} (hl : lbl c k = some t) : la (gmake c ht).ls k = some (pos (gfold c ht (t + 1))) ∧ pos (gfold c ht (t + 1)) < 4096 := by
  obtain ⟨-, -, -, -, hf⟩ := fit_make hL hT hall hlen
  have hI := giv_all hL hT hall hlen c.length (Nat.le_refl _)
  have hG64 : (gfold c ht c.length).gr.length ≤ 64 := (giv_fit hI hlen).2
  have hc := lbl_ok hl
  have htl := lbl_lt hl
  obtain ⟨⟨x, e, hx⟩, -⟩ := fold_ext (ht := ht) hL (t + 1) (c.length - (t + 1)) (by omega)
  rw [show t + 1 + (c.length - (t + 1)) = c.length by omega] at e hx
  obtain ⟨x', e', hx'⟩ := dat_ext (gfold c ht c.length) 0 (gfold c ht c.length).gr.length
  rw [Nat.zero_add] at e' hx'
  have es := gfold_s (ht := ht) hc
  rw [gone13] at es
  generalize hX : (if (gfold c ht t).re = true then gkeepAll (gfold c ht t) else gfold c ht t) = X at es
  have esl : (gfold c ht (t + 1)).ls = X.ls ++ [(14, k)] := by rw [es]; rfl
  have hpos : pos (gfold c ht (t + 1)) = (nl X.ls).length := by unfold pos; rw [esl, nl_app, nl_n]; simp [nl]
  have eF : (gmake c ht).ls = X.ls ++ (14, k) :: (x ++ x') := by
    unfold gmake
    rw [e']
    show (gfold c ht c.length).ls ++ x' = _
    rw [e, esl]
    simp
  have hk : inR k 100 = true := by
    have := (hL _ _ _ hc).2.1
    unfold argOK at this
    rw [if_neg (by decide), if_neg (by decide), if_neg (by decide), if_pos (by decide)] at this
    exact this
  obtain ⟨j, hj, ej, -⟩ := inR_nI hk
  have hno : ∀ y, y ∈ (x ++ x' : Lns) → y ≠ (14, k) := by
    intro y hy hz
    rcases List.mem_append.mp hy with h1 | h1
    · obtain ⟨i', q1, q2, q3⟩ := hx y h1 (by rw [hz])
      rw [hz] at q3
      have := lbl_uq hL q3
      rw [hl] at this
      have := Option.some.inj this
      omega
    · obtain ⟨g, q1, q2, q3⟩ := hx' y h1 (by rw [hz])
      rw [hz, ej] at q3
      have := (nI_eq (a := j) (b := 100 + g) (by omega) (by omega)).mp q3
      omega
  rw [hpos]
  refine ⟨by rw [eF]; exact la_at hno, ?_⟩
  have h1 := nl_le X.ls
  have h2 := ls_len (gmake c ht).ls
  rw [eF, List.length_append] at h2
  rw [eF] at hf
  omega
end WHOLE
