/-! the optimiser, pure: a pass keeps what a run answers -/
theorem lblF_app (P Q : Cod) (lab : Int32) : ∀ i, lblF (P ++ Q) lab i = (match lblF P lab i with | some j => some j | none => lblF Q lab (i + P.length)) := by
  induction P with
  | nil => intro i; simp [lblF]
  | cons x r ih =>
    intro i
    obtain ⟨n, k⟩ := x
    by_cases h : n = 13 ∧ k = lab
    · simp only [List.cons_append, lblF, if_pos h]
    · simp only [List.cons_append, lblF, if_neg h, List.length_cons]
      rw [ih (i + 1), show i + 1 + r.length = i + (r.length + 1) by omega]
theorem lblF_sh (Q : Cod) (lab : Int32) (d : Nat) : ∀ i, lblF Q lab (i + d) = (lblF Q lab i).map (fun j => j + d) := by
  induction Q with
  | nil => intro i; rfl
  | cons x r ih =>
    intro i
    obtain ⟨n, k⟩ := x
    by_cases h : n = 13 ∧ k = lab
    · simp only [lblF, if_pos h, Option.map_some]
    · simp only [lblF, if_neg h]
      rw [← ih (i + 1), show i + d + 1 = i + 1 + d by omega]
theorem lblF_none {M : Cod} (lab : Int32) : ∀ i, (∀ x, x ∈ M → x.1 ≠ 13) → lblF M lab i = none := by
  induction M with
  | nil => intro i _; rfl
  | cons x r ih =>
    intro i h
    obtain ⟨n, k⟩ := x
    rw [lblF, if_neg (fun z => h (n, k) List.mem_cons_self z.1)]
    exact ih (i + 1) (fun y hy => h y (List.mem_cons_of_mem _ hy))
theorem lblF_lt {c : Cod} {lab : Int32} {i j : Nat} (h : lblF c lab i = some j) : i ≤ j ∧ j < i + c.length := by
  obtain ⟨h1, h2⟩ := lblF_ok c lab i j h
  have := (List.getElem?_eq_some_iff.mp h2).1
  omega
theorem lbl_blk {P M M' S : Cod} {k : Int32} {t : Nat} (hM : ∀ x, x ∈ M → x.1 ≠ 13) (hM' : ∀ x, x ∈ M' → x.1 ≠ 13) (h : lbl (P ++ (M ++ S)) k = some t) : (t < P.length ∧ lbl (P ++ (M' ++ S)) k = some t) ∨ (P.length + M.length ≤ t ∧ lbl (P ++ (M' ++ S)) k = some (t - M.length + M'.length)) := by
  unfold lbl at h ⊢
  simp only [lblF_app] at h ⊢
  cases hP : lblF P k 0 with
  | some j =>
    simp only [hP, Option.some.injEq] at h ⊢
    subst h
    exact Or.inl ⟨by have := lblF_lt hP; omega, rfl⟩
  | none =>
    simp only [hP, lblF_none k _ hM, lblF_none k _ hM', Nat.zero_add] at h ⊢
    have e1 := lblF_sh S k (P.length + M.length) 0
    have e2 := lblF_sh S k (P.length + M'.length) 0
    rw [Nat.zero_add] at e1 e2
    rw [e1] at h
    rw [e2]
    cases hS : lblF S k 0 with
    | none => rw [hS] at h; cases h
    | some j =>
      rw [hS] at h
      simp only [Option.map_some, Option.some.injEq] at h ⊢
      exact Or.inr ⟨by omega, by omega⟩
theorem lbl_uq {c : Cod} (hL : LabC c) {i : Nat} {k : Int32} (h : c[i]? = some (13, k)) : lbl c k = some i := (hL i 13 k h).2.2.1 rfl
-- an instruction
section MDO
variable (k : Int32) (σ r : List Int32) (loc wrd : Nat → Int32) (v y x a : Int32)
theorem mdo_0 : mdo 0 k σ loc wrd = if σ.length < 61 then some (0, k :: σ, loc, wrd) else none := rfl
theorem mdo_1 : mdo 1 k σ loc wrd = if σ.length < 61 ∧ inR k 16 = true then some (0, loc k.toNatClampNeg :: σ, loc, wrd) else none := rfl
theorem mdo_2 : mdo 2 k (v :: r) loc wrd = if inR k 16 = true then some (0, r, va_up loc k.toNatClampNeg v, wrd) else none := rfl
theorem mdo_3 : mdo 3 k (a :: r) loc wrd = some (if isW a.toInt = true then (0, wrd a.toNatClampNeg :: r, loc, wrd) else (2, 0 :: r, loc, wrd)) := rfl
theorem mdo_4 : mdo 4 k (a :: v :: r) loc wrd = some (if isW a.toInt = true then (0, r, loc, va_up wrd a.toNatClampNeg v) else (2, r, loc, wrd)) := rfl
theorem mdo_7 : mdo 7 k (y :: x :: r) loc wrd = if inR k 11 = true then some (if (k = 3 ∨ k = 4) ∧ y = 0 then (3, r, loc, wrd) else (0, opr k.toNatClampNeg x y :: r, loc, wrd)) else none := rfl
theorem mdo_8 : mdo 8 k (y :: x :: r) loc wrd = if inR k 6 = true then some (0, rI (rel k.toNatClampNeg x y) :: r, loc, wrd) else none := rfl
theorem mdo_9 : mdo 9 k (y :: x :: r) loc wrd = if inR k 6 = true then some (0, rI (rel k.toNatClampNeg x y) :: y :: r, loc, wrd) else none := rfl
theorem mdo_19 : mdo 19 k (y :: x :: r) loc wrd = some (if isW (wAt x y) = true then (0, getb (wrd (wAt x y).toNat) y :: r, loc, wrd) else (2, 0 :: r, loc, wrd)) := rfl
theorem mdo_20 : mdo 20 k (y :: x :: v :: r) loc wrd = some (if isW (wAt x y) = true then (0, r, loc, va_up wrd (wAt x y).toNat (setb (wrd (wAt x y).toNat) y v)) else (2, r, loc, wrd)) := rfl
end MDO
-- steps of a run
theorem crun_none {c : Cod} {N i : Nat} {σ : List Int32} {loc wrd : Nat → Int32} {fu : Nat} (h : c[i]? = none) : crun c N i σ loc wrd fu = none := by
  cases N with
  | zero => rfl
  | succ N =>
    rw [crun.eq_def]
    dsimp only
    split
    · rfl
    · rw [h]
theorem crun_s {c : Cod} {N i : Nat} {σ : List Int32} {loc wrd : Nat → Int32} {fu n : Nat} {k : Int32} (hc : c[i]? = some (n, k)) (hl : ¬ 61 < σ.length) : crun c (N + 1) i σ loc wrd fu = (if n = 16 then (match σ with | v :: _ => some (0, v, loc, wrd, fu) | [] => none)
      else if n = 17 then some (4, 0, loc, wrd, fu)
      else if n = 15 ∧ fu = 0 then some (1, 0, loc, wrd, fu)
      else match mdo n k σ loc wrd with
        | none => none
        | some (ev, σ', loc', wrd') =>
          if 0 < ev then some (ev, 0, loc', wrd', if n = 15 then fu - 1 else fu)
          else match cgo c i n k σ' with
            | none => none
            | some (i', σ'') => crun c N i' σ'' loc' wrd' (if n = 15 then fu - 1 else fu)) := by
  rw [crun.eq_def]
  dsimp only
  rw [if_neg hl, hc]
  rfl
theorem crun_l {c : Cod} {N i : Nat} {σ : List Int32} {loc wrd : Nat → Int32} {fu : Nat} {r : Res} (h : crun c N i σ loc wrd fu = some r) : ∃ N1, N = N1 + 1 ∧ ¬ 61 < σ.length := by
  cases N with
  | zero => cases h
  | succ N =>
    refine ⟨N, rfl, fun z => ?_⟩
    rw [crun.eq_def] at h
    dsimp only at h
    rw [if_pos z] at h
    cases h
def PlainN (n : Nat) : Prop := n ≠ 10 ∧ n ≠ 11 ∧ n ≠ 12 ∧ n ≠ 15 ∧ n ≠ 16 ∧ n ≠ 17 ∧ n ≠ 18
theorem cgo_p {c : Cod} {i n : Nat} {k : Int32} {σ : List Int32} (h : PlainN n) : cgo c i n k σ = some (i + 1, σ) := by
  obtain ⟨h1, h2, h3, h4, h5, h6, h7⟩ := h
  unfold cgo
  rw [if_neg h1, if_neg (fun z => z.elim h2 h3), if_neg h7]
theorem crun_p {c : Cod} {N i : Nat} {σ σ' : List Int32} {loc wrd loc' wrd' : Nat → Int32} {fu n : Nat} {k : Int32} (hc : c[i]? = some (n, k)) (hn : PlainN n) (hl : ¬ 61 < σ.length) (hm : mdo n k σ loc wrd = some (0, σ', loc', wrd')) : crun c (N + 1) i σ loc wrd fu = crun c N (i + 1) σ' loc' wrd' fu := by
  obtain ⟨h1, h2, h3, h4, h5, h6, h7⟩ := hn
  rw [crun_s hc hl, if_neg h5, if_neg h6, if_neg (fun z => h4 z.1), hm]
  dsimp only
  rw [if_neg (by omega), cgo_p ⟨h1, h2, h3, h4, h5, h6, h7⟩, if_neg h4]
theorem crun_q {c : Cod} {N i : Nat} {σ : List Int32} {loc wrd : Nat → Int32} {fu n : Nat} {k : Int32} {r : Res} (hc : c[i]? = some (n, k)) (hn : PlainN n) (h : crun c N i σ loc wrd fu = some r) : ∃ N1, N = N1 + 1 ∧ ¬ 61 < σ.length ∧ ∃ ev σ' loc' wrd', mdo n k σ loc wrd = some (ev, σ', loc', wrd') ∧ (ev = 0 → crun c N1 (i + 1) σ' loc' wrd' fu = some r) ∧ (0 < ev → r = (ev, 0, loc', wrd', fu)) := by
  obtain ⟨N1, rfl, hl⟩ := crun_l h
  refine ⟨N1, rfl, hl, ?_⟩
  cases hm : mdo n k σ loc wrd with
  | none =>
    obtain ⟨h1, h2, h3, h4, h5, h6, h7⟩ := hn
    rw [crun_s hc hl, if_neg h5, if_neg h6, if_neg (fun z => h4 z.1), hm] at h
    cases h
  | some x =>
    obtain ⟨ev, σ', loc', wrd'⟩ := x
    refine ⟨ev, σ', loc', wrd', rfl, ?_, ?_⟩
    · intro e
      subst e
      rw [crun_p hc hn hl hm] at h
      exact h
    · intro e
      obtain ⟨h1, h2, h3, h4, h5, h6, h7⟩ := hn
      rw [crun_s hc hl, if_neg h5, if_neg h6, if_neg (fun z => h4 z.1), hm] at h
      dsimp only at h
      rw [if_pos e, if_neg h4] at h
      exact (Option.some.inj h).symm
/-- the same instruction at i and j, and it goes on alike -/
def SameS (c c' : Cod) (R : Nat → Nat → Prop) (i j : Nat) : Prop := ∃ n k, c[i]? = some (n, k) ∧ c'[j]? = some (n, k) ∧ (n ≠ 10 → n ≠ 16 → n ≠ 17 → n ≠ 18 → R (i + 1) (j + 1)) ∧ (n = 10 ∨ n = 11 ∨ n = 12 → ∀ t, lbl c k = some t → ∃ t', lbl c' k = some t' ∧ R t t') ∧ (n = 18 → R (i + 2) (j + 2) ∧ ∃ k', c[i + 1]? = some (12, k') ∧ c'[j + 1]? = some (12, k') ∧ ∀ t, lbl c k' = some t → ∃ t', lbl c' k' = some t' ∧ R t t')
def BlkS (c c' : Cod) (R : Nat → Nat → Prop) (i j : Nat) : Prop := ∀ N σ loc wrd fu r, crun c N i σ loc wrd fu = some r → ∃ N1 i1 σ1 j1, N1 < N ∧ crun c N1 i1 σ1 loc wrd fu = some r ∧ R i1 j1 ∧ ∀ N', crun c' N' j1 σ1 loc wrd fu = some r → ∃ N'', crun c' N'' j σ loc wrd fu = some r
theorem cgo_sim {c c' : Cod} {R : Nat → Nat → Prop} {i j n : Nat} {k : Int32} {σ σ2 : List Int32} {i' : Nat} (h16 : n ≠ 16) (h17 : n ≠ 17) (h1 : n ≠ 10 → n ≠ 16 → n ≠ 17 → n ≠ 18 → R (i + 1) (j + 1)) (h2 : n = 10 ∨ n = 11 ∨ n = 12 → ∀ t, lbl c k = some t → ∃ t', lbl c' k = some t' ∧ R t t') (h3 : n = 18 → R (i + 2) (j + 2) ∧ ∃ k', c[i + 1]? = some (12, k') ∧ c'[j + 1]? = some (12, k') ∧ ∀ t, lbl c k' = some t → ∃ t', lbl c' k' = some t' ∧ R t t') (hg : cgo c i n k σ = some (i', σ2)) : ∃ j', R i' j' ∧ cgo c' j n k σ = some (j', σ2) := by
  unfold cgo at hg ⊢
  by_cases h10 : n = 10
  · rw [if_pos h10] at hg
    simp only [if_pos h10]
    cases hl : lbl c k with
    | none => rw [hl] at hg; cases hg
    | some t =>
      rw [hl] at hg
      obtain ⟨t', e, hR⟩ := h2 (Or.inl h10) t hl
      cases hg
      exact ⟨t', hR, by rw [e]⟩
  · rw [if_neg h10] at hg
    simp only [if_neg h10]
    by_cases h11 : n = 11 ∨ n = 12
    · rw [if_pos h11] at hg
      simp only [if_pos h11]
      cases σ with
      | nil => cases hg
      | cons v r =>
        dsimp only at hg ⊢
        by_cases hv : (v = 0 ↔ n = 11)
        · rw [if_pos hv] at hg
          simp only [if_pos hv]
          cases hl : lbl c k with
          | none => rw [hl] at hg; cases hg
          | some t =>
            rw [hl] at hg
            obtain ⟨t', e, hR⟩ := h2 (Or.inr h11) t hl
            cases hg
            exact ⟨t', hR, by rw [e]⟩
        · rw [if_neg hv] at hg
          simp only [if_neg hv]
          cases hg
          exact ⟨j + 1, h1 h10 h16 h17 (fun z => by omega), rfl⟩
    · rw [if_neg h11] at hg
      simp only [if_neg h11]
      by_cases h18 : n = 18
      · rw [if_pos h18] at hg
        simp only [if_pos h18]
        obtain ⟨hR2, k', e1, e2, h4⟩ := h3 h18
        cases σ with
        | nil => cases hg
        | cons v r =>
          dsimp only at hg ⊢
          by_cases hv : v = k
          · rw [if_pos hv, e1] at hg
            simp only [if_pos hv, e2]
            dsimp only at hg
            cases hl : lbl c k' with
            | none => rw [hl] at hg; cases hg
            | some t =>
              rw [hl] at hg
              obtain ⟨t', e, hR⟩ := h4 t hl
              cases hg
              exact ⟨t', hR, by rw [e]⟩
          · rw [if_neg hv] at hg
            simp only [if_neg hv]
            cases hg
            exact ⟨j + 2, hR2, rfl⟩
      · rw [if_neg h18] at hg
        simp only [if_neg h18]
        cases hg
        exact ⟨j + 1, h1 h10 h16 h17 h18, rfl⟩
theorem simS {c c' : Cod} {R : Nat → Nat → Prop} (hS : ∀ i j, R i j → i < c.length → SameS c c' R i j ∨ BlkS c c' R i j) : ∀ N i j σ loc wrd fu r, R i j → crun c N i σ loc wrd fu = some r → ∃ N', crun c' N' j σ loc wrd fu = some r := by
  intro N
  induction N using Nat.strongRecOn with
  | _ N ih =>
    intro i j σ loc wrd fu r hR h
    have hi : i < c.length := by
      apply Classical.byContradiction
      intro z
      rw [crun_none (List.getElem?_eq_none (by omega))] at h
      cases h
    rcases hS i j hR hi with ⟨n, k, hc, hc', h1, h2, h3⟩ | hb
    · obtain ⟨N, rfl, hl⟩ := crun_l h
      rw [crun_s hc hl] at h
      by_cases h16 : n = 16
      · refine ⟨1, ?_⟩
        rw [crun_s hc' hl]
        rw [if_pos h16] at h ⊢
        exact h
      · by_cases h17 : n = 17
        · refine ⟨1, ?_⟩
          rw [crun_s hc' hl]
          rw [if_neg h16, if_pos h17] at h ⊢
          exact h
        · by_cases h15 : n = 15 ∧ fu = 0
          · refine ⟨1, ?_⟩
            rw [crun_s hc' hl]
            rw [if_neg h16, if_neg h17, if_pos h15] at h ⊢
            exact h
          · rw [if_neg h16, if_neg h17, if_neg h15] at h
            cases hm : mdo n k σ loc wrd with
            | none => rw [hm] at h; cases h
            | some x =>
              obtain ⟨ev, σ', loc', wrd'⟩ := x
              rw [hm] at h
              dsimp only at h
              by_cases hev : 0 < ev
              · refine ⟨1, ?_⟩
                rw [crun_s hc' hl, if_neg h16, if_neg h17, if_neg h15, hm]
                dsimp only
                rw [if_pos hev] at h ⊢
                exact h
              · rw [if_neg hev] at h
                cases hg : cgo c i n k σ' with
                | none => rw [hg] at h; cases h
                | some y =>
                  obtain ⟨i', σ2⟩ := y
                  rw [hg] at h
                  dsimp only at h
                  obtain ⟨j', hR', hg'⟩ := cgo_sim h16 h17 h1 h2 h3 hg
                  obtain ⟨N', hN'⟩ := ih N (by omega) i' j' _ _ _ _ _ hR' h
                  refine ⟨N' + 1, ?_⟩
                  rw [crun_s hc' hl, if_neg h16, if_neg h17, if_neg h15, hm]
                  dsimp only
                  rw [if_neg hev, hg']
                  exact hN'
    · obtain ⟨N1, i1, σ1, j1, hN, hr, hR1, hback⟩ := hb N σ loc wrd fu r h
      obtain ⟨N', hN'⟩ := ih N1 hN i1 j1 _ _ _ _ _ hR1 hr
      exact hback N' hN'
-- heights
noncomputable def htR (R : Nat → Nat → Prop) (ht : Nat → Option Nat) (j : Nat) : Option Nat :=
  @dite _ (∃ h i, R i j ∧ ht i = some h) (Classical.propDecidable _) (fun z => some z.choose) (fun _ => none)
theorem htR_some {R : Nat → Nat → Prop} {ht : Nat → Option Nat} {j h : Nat} (e : htR R ht j = some h) : ∃ i, R i j ∧ ht i = some h := by
  unfold htR at e
  split at e
  · next z =>
    have := z.choose_spec
    rw [← Option.some.inj e]
    exact this
  · cases e
theorem htR_of {R : Nat → Nat → Prop} {ht : Nat → Option Nat} (hcoh : ∀ i i' j h h', R i j → R i' j → ht i = some h → ht i' = some h' → h = h') {i j h : Nat} (hR : R i j) (e : ht i = some h) : htR R ht j = some h := by
  have hex : ∃ h i, R i j ∧ ht i = some h := ⟨h, i, hR, e⟩
  unfold htR
  split
  · next z =>
    obtain ⟨i', hR', e'⟩ := z.choose_spec
    rw [hcoh i' i j _ _ hR' hR e' e]
  · next z => exact absurd hex z
theorem same_way {c c' : Cod} {R : Nat → Nat → Prop} (hL : LabC c) {i j : Nat} {h : Int} {t' : Nat} {h' : Int} (hS : SameS c c' R i j) (hw : Way c' j h t' h') : ∃ t, R t t' ∧ Way c i h t h' := by
  obtain ⟨n, k, hc, hc', h1, h2, h3⟩ := hS
  obtain ⟨n', k2, hc2, hw⟩ := hw
  rw [hc'] at hc2
  cases hc2
  rcases hw with ⟨e, eh⟩ | ⟨e, eh⟩
  · unfold nx0 at e
    rw [hc'] at e
    dsimp only at e
    by_cases a : n = 16 ∨ n = 17 ∨ n = 10
    · rw [if_pos a] at e; cases e
    · rw [if_neg a] at e
      by_cases b : n = 18
      · rw [if_pos b] at e
        cases e
        exact ⟨i + 2, (h3 b).1, n, k, hc, Or.inl ⟨by unfold nx0; rw [hc]; dsimp only; rw [if_neg a, if_pos b], eh⟩⟩
      · rw [if_neg b] at e
        cases e
        exact ⟨i + 1, h1 (fun z => a (Or.inr (Or.inr z))) (fun z => a (Or.inl z)) (fun z => a (Or.inr (Or.inl z))) b, n, k, hc, Or.inl ⟨by unfold nx0; rw [hc]; dsimp only; rw [if_neg a, if_neg b], eh⟩⟩
  · unfold nx1 at e
    rw [hc'] at e
    dsimp only at e
    by_cases a : n = 10 ∨ n = 11 ∨ n = 12
    · rw [if_pos a] at e
      obtain ⟨t, et⟩ := (hL i n k hc).2.2.2.1 a
      obtain ⟨t2, e2, hR⟩ := h2 a t et
      rw [e2] at e
      cases e
      exact ⟨t, hR, n, k, hc, Or.inr ⟨by unfold nx1; rw [hc]; dsimp only; rw [if_pos a]; exact et, eh⟩⟩
    · rw [if_neg a] at e
      by_cases b : n = 18
      · rw [if_pos b] at e
        obtain ⟨-, k', e1, e2, h4⟩ := h3 b
        rw [e2] at e
        dsimp only at e
        obtain ⟨t, et⟩ := (hL (i + 1) 12 k' e1).2.2.2.1 (by decide)
        obtain ⟨t2, e5, hR⟩ := h4 t et
        rw [e5] at e
        cases e
        exact ⟨t, hR, n, k, hc, Or.inr ⟨by unfold nx1; rw [hc]; dsimp only; rw [if_neg a, if_pos b, e1]; exact et, eh⟩⟩
      · rw [if_neg b] at e; cases e
theorem typR {c c' : Cod} {R : Nat → Nat → Prop} {ht : Nat → Option Nat} (hT : Typ c ht) (hL : LabC c) (hcoh : ∀ i i' j h h', R i j → R i' j → ht i = some h → ht i' = some h' → h = h') (h0 : R 0 0) (hS : ∀ i j h, R i j → ht i = some h → (∃ i', R i' j ∧ ht i' = some h ∧ SameS c c' R i' j) ∨ (∃ n k, c'[j]? = some (n, k) ∧ tI n ≤ h ∧ h ≤ 60 ∧ ∀ t h', Way c' j h t h' → ∃ t0, R t0 t ∧ ∃ h2 : Nat, h' = h2 ∧ ht t0 = some h2)) : Typ c' (htR R ht) := by
  refine ⟨htR_of hcoh h0 hT.1, fun j h e => ?_⟩
  obtain ⟨i, hR, ei⟩ := htR_some e
  rcases hS i j h hR ei with ⟨i', hR', ei', hs⟩ | ⟨n, k, hc, ht1, ht2, hw⟩
  · obtain ⟨n, k, hc, q1, q2, q3⟩ := hT.2 i' h ei'
    have hs0 := hs
    obtain ⟨n', k', hc1, hc2, -⟩ := hs0
    rw [hc] at hc1
    cases hc1
    refine ⟨n, k, hc2, q1, q2, fun t h' hw => ?_⟩
    obtain ⟨t0, hR0, hw0⟩ := same_way hL hs hw
    obtain ⟨h2, eh, e2⟩ := q3 t0 h' hw0
    exact ⟨h2, eh, htR_of hcoh hR0 e2⟩
  · refine ⟨n, k, hc, ht1, ht2, fun t h' hw' => ?_⟩
    obtain ⟨t0, hR0, h2, eh, e2⟩ := hw t h' hw'
    exact ⟨h2, eh, htR_of hcoh hR0 e2⟩
