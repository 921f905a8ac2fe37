/-! the optimiser, pure: blocks, what is never come to, a pass, all passes -/
/-- labels, heights, runs are kept -/
def Pres (c c' : Cod) : Prop := LabC c → (∃ ht, Typ c ht) → LabC c' ∧ (∃ ht, Typ c' ht) ∧ ∀ N loc wrd fu r, crun c N 0 [] loc wrd fu = some r → ∃ N', crun c' N' 0 [] loc wrd fu = some r
theorem Pres.rf (c : Cod) : Pres c c := fun a b => ⟨a, b, fun N _ _ _ _ h => ⟨N, h⟩⟩
theorem Pres.trans {c c' c2 : Cod} (h1 : Pres c c') (h2 : Pres c' c2) : Pres c c2 := fun a b => by
  obtain ⟨a1, b1, e1⟩ := h1 a b
  obtain ⟨a2, b2, e2⟩ := h2 a1 b1
  exact ⟨a2, b2, fun N loc wrd fu r h => by obtain ⟨N', h'⟩ := e1 N loc wrd fu r h; exact e2 N' loc wrd fu r h'⟩
theorem labR {c c' : Cod} {R : Nat → Nat → Prop} (hL : LabC c) (hS : ∀ j n k, c'[j]? = some (n, k) → (∃ i, R i j ∧ SameS c c' R i j) ∨ n = 0 ∨ (n = 10 ∧ inR k 100 = true ∧ ∃ t, lbl c' k = some t)) (hl : ∀ i j k, R i j → lbl c k = some i → lbl c' k = some j) : LabC c' := by
  intro j n k hj
  rcases hS j n k hj with ⟨i, hR, n', k', h1, h2, h3, h4, h5⟩ | h | ⟨h, h1, h2⟩
  · rw [hj] at h2
    cases h2
    obtain ⟨a, b, c1, d, e⟩ := hL i n k h1
    refine ⟨a, b, fun z => hl i j k hR (c1 z), fun z => ?_, fun z => ?_⟩
    · obtain ⟨t, et⟩ := d z
      obtain ⟨t', e', -⟩ := h4 z t et
      exact ⟨t', e'⟩
    · obtain ⟨-, k', -, e2, -⟩ := h5 z
      exact ⟨k', e2⟩
  · subst h
    exact ⟨by omega, rfl, fun z => absurd z (by omega), fun z => absurd z (by omega), fun z => absurd z (by omega)⟩
  · subst h
    exact ⟨by omega, h1, fun z => absurd z (by omega), fun _ => h2, fun z => absurd z (by omega)⟩
def Rb (p d d' : Nat) (i j : Nat) : Prop := (i ≤ p ∧ j = i) ∨ (p + d ≤ i ∧ j = i - d + d')
section BLK
variable {P M M' S : Cod}
theorem gbP {i : Nat} (h : i < P.length) : (P ++ (M ++ S))[i]? = P[i]? := List.getElem?_append_left h
theorem gbM {i : Nat} (h : i < M.length) : (P ++ (M ++ S))[P.length + i]? = M[i]? := by
  rw [List.getElem?_append_right (by omega), show P.length + i - P.length = i by omega]
  exact List.getElem?_append_left h
theorem gbS (i : Nat) : (P ++ (M ++ S))[P.length + M.length + i]? = S[i]? := by
  rw [List.getElem?_append_right (by omega), List.getElem?_append_right (by omega), show P.length + M.length + i - P.length - M.length = i by omega]
theorem gbR {i j : Nat} (hM0 : 0 < M.length) (hR : Rb P.length M.length M'.length i j) (hi : i ≠ P.length) : (P ++ (M' ++ S))[j]? = (P ++ (M ++ S))[i]? := by
  rcases hR with ⟨a, rfl⟩ | ⟨a, b⟩
  · rw [gbP (by omega), gbP (by omega)]
  · rw [show i = P.length + M.length + (i - P.length - M.length) by omega, show j = P.length + M'.length + (i - P.length - M.length) by omega, gbS, gbS]
theorem lR {k : Int32} {t : Nat} (hM : ∀ x, x ∈ M → x.1 ≠ 13) (hM' : ∀ x, x ∈ M' → x.1 ≠ 13) (h : lbl (P ++ (M ++ S)) k = some t) : ∃ t', lbl (P ++ (M' ++ S)) k = some t' ∧ Rb P.length M.length M'.length t t' := by
  rcases lbl_blk hM hM' h with ⟨a, b⟩ | ⟨a, b⟩
  · exact ⟨t, b, Or.inl ⟨by omega, rfl⟩⟩
  · exact ⟨_, b, Or.inr ⟨a, rfl⟩⟩
theorem blkSame (hM0 : 0 < M.length) (h12 : ∀ k, M[0]? ≠ some (12, k)) (hM : ∀ x, x ∈ M → x.1 ≠ 13) (hM' : ∀ x, x ∈ M' → x.1 ≠ 13) (hL : LabC (P ++ (M ++ S))) {i j : Nat} (hR : Rb P.length M.length M'.length i j) (hi : i ≠ P.length) (hc : i < (P ++ (M ++ S)).length) : SameS (P ++ (M ++ S)) (P ++ (M' ++ S)) (Rb P.length M.length M'.length) i j := by
  have hg := List.getElem?_eq_getElem hc
  generalize hx : (P ++ (M ++ S))[i] = x at hg
  obtain ⟨n, k⟩ := x
  have h1 : Rb P.length M.length M'.length (i + 1) (j + 1) := by
    rcases hR with ⟨a, b⟩ | ⟨a, b⟩
    · exact Or.inl ⟨by omega, by omega⟩
    · exact Or.inr ⟨by omega, by omega⟩
  refine ⟨n, k, hg, by rw [gbR hM0 hR hi]; exact hg, fun _ _ _ _ => h1, fun _ t ht => lR hM hM' ht, fun h18 => ?_⟩
  obtain ⟨k', hk⟩ := (hL i n k hg).2.2.2.2 h18
  have hi1 : i + 1 ≠ P.length := fun z => by
    rw [z, show P.length = P.length + 0 by omega, gbM hM0] at hk
    exact h12 _ hk
  refine ⟨?_, k', hk, by rw [gbR hM0 h1 hi1]; exact hk, fun t ht => lR hM hM' ht⟩
  rcases hR with ⟨a, b⟩ | ⟨a, b⟩
  · exact Or.inl ⟨by omega, by omega⟩
  · exact Or.inr ⟨by omega, by omega⟩
theorem blk (hM0 : 0 < M.length) (h12 : ∀ k, M[0]? ≠ some (12, k)) (hM : ∀ x, x ∈ M → x.1 ≠ 13) (hL : LabC (P ++ (M ++ S))) {ht : Nat → Option Nat} (hT : Typ (P ++ (M ++ S)) ht)
    (hm : (M' = [] ∧ ∀ h, ht P.length = some h → ht (P.length + M.length) = some h) ∨ (∃ x, M' = [(0, x)] ∧ ∀ h, ht P.length = some h → ht (P.length + M.length) = some (h + 1)) ∨ (∃ a t, M' = [(10, a)] ∧ inR a 100 = true ∧ lbl (P ++ (M ++ S)) a = some t ∧ ∀ h, ht P.length = some h → ht t = some h))
    (hB : BlkS (P ++ (M ++ S)) (P ++ (M' ++ S)) (Rb P.length M.length M'.length) P.length P.length) :
    LabC (P ++ (M' ++ S)) ∧ (∃ ht, Typ (P ++ (M' ++ S)) ht) ∧ ∀ N loc wrd fu r, crun (P ++ (M ++ S)) N 0 [] loc wrd fu = some r → ∃ N', crun (P ++ (M' ++ S)) N' 0 [] loc wrd fu = some r := by
  have hM' : ∀ x, x ∈ M' → x.1 ≠ 13 := by
    rcases hm with ⟨rfl, -⟩ | ⟨x, rfl, -⟩ | ⟨a, t, rfl, -⟩
    · intro x hx; cases hx
    · intro y hy; rw [List.mem_singleton.mp hy]; show (0 : Nat) ≠ 13; decide
    · intro y hy; rw [List.mem_singleton.mp hy]; show (10 : Nat) ≠ 13; decide
  have hml : M'.length ≤ 1 := by
    rcases hm with ⟨rfl, -⟩ | ⟨x, rfl, -⟩ | ⟨a, t, rfl, -⟩ <;> simp
  have hsame : ∀ {i j : Nat}, Rb P.length M.length M'.length i j → i ≠ P.length → i < (P ++ (M ++ S)).length → SameS (P ++ (M ++ S)) (P ++ (M' ++ S)) (Rb P.length M.length M'.length) i j := fun hR hi hc => blkSame hM0 h12 hM hM' hL hR hi hc
  have h00 : Rb P.length M.length M'.length 0 0 := Or.inl ⟨by omega, rfl⟩
  refine ⟨labR (R := Rb P.length M.length M'.length) hL ?_ ?_, ⟨_, typR (R := Rb P.length M.length M'.length) hT hL ?_ h00 ?_⟩, fun N loc wrd fu r h => simS (R := Rb P.length M.length M'.length) (fun i j hR hi => ?_) N 0 0 [] loc wrd fu r h00 h⟩
  · intro j n k hj
    have hjl := (List.getElem?_eq_some_iff.mp hj).1
    simp only [List.length_append] at hjl
    by_cases h1 : j < P.length
    · exact Or.inl ⟨j, Or.inl ⟨by omega, rfl⟩, hsame (Or.inl ⟨by omega, rfl⟩) (by omega) (by simp only [List.length_append]; omega)⟩
    · by_cases h2 : j < P.length + M'.length
      · have e : j = P.length + 0 := by omega
        rw [e, gbM (by omega)] at hj
        rcases hm with ⟨rfl, -⟩ | ⟨x, rfl, -⟩ | ⟨a, t, rfl, ha, ht1, -⟩
        · cases hj
        · cases hj; exact Or.inr (Or.inl rfl)
        · cases hj
          obtain ⟨t', e', -⟩ := lR hM hM' ht1
          exact Or.inr (Or.inr ⟨rfl, ha, t', e'⟩)
      · have hR : Rb P.length M.length M'.length (j - M'.length + M.length) j := Or.inr ⟨by omega, by omega⟩
        exact Or.inl ⟨_, hR, hsame hR (by omega) (by simp only [List.length_append]; omega)⟩
  · intro i j k hR hl
    obtain ⟨t', e, hR'⟩ := lR hM hM' hl
    rw [e]
    have hok := lbl_ok hl
    have hne : i ≠ P.length := fun z => by
      rw [z, show P.length = P.length + 0 by omega, gbM hM0] at hok
      exact hM _ (List.mem_of_getElem? hok) rfl
    unfold Rb at hR hR'
    congr 1
    omega
  · intro i i' j h h' hR hR' e e'
    by_cases hii : i = i'
    · subst hii; rw [e] at e'; exact Option.some.inj e'
    · have : (i = P.length ∧ i' = P.length + M.length ∧ M'.length = 0) ∨ (i' = P.length ∧ i = P.length + M.length ∧ M'.length = 0) := by unfold Rb at hR hR'; omega
      have hm0 : M'.length = 0 → ∀ h, ht P.length = some h → ht (P.length + M.length) = some h := fun z => by
        rcases hm with ⟨-, q⟩ | ⟨x, rfl, -⟩ | ⟨a, t, rfl, -⟩
        · exact q
        · simp at z
        · simp at z
      rcases this with ⟨rfl, rfl, z⟩ | ⟨rfl, rfl, z⟩
      · have := hm0 z h e; rw [e'] at this; exact (Option.some.inj this).symm
      · have := hm0 z h' e'; rw [e] at this; exact Option.some.inj this
  · intro i j h hR e
    obtain ⟨n, k, hc, q1, q2, q3⟩ := hT.2 i h e
    have hil := (List.getElem?_eq_some_iff.mp hc).1
    by_cases hi : i = P.length
    · subst hi
      have hj : j = P.length := by unfold Rb at hR; omega
      subst hj
      rcases hm with ⟨rfl, q⟩ | ⟨x, rfl, q⟩ | ⟨a, t, rfl, ha, hta, q⟩
      · have e2 := q h e
        have hR2 : Rb P.length M.length ([] : Cod).length (P.length + M.length) P.length := Or.inr ⟨Nat.le_refl _, by simp⟩
        obtain ⟨n2, k2, hc2, -⟩ := hT.2 _ h e2
        exact Or.inl ⟨_, hR2, e2, hsame hR2 (by omega) (List.getElem?_eq_some_iff.mp hc2).1⟩
      · have hx : (P ++ ([(0, x)] ++ S))[P.length]? = some (0, x) := gbM (i := 0) (by simp)
        refine Or.inr ⟨0, x, hx, by show tI 0 ≤ _; have : tI 0 = 0 := by decide
                                    omega, q2, fun t h' hw => ?_⟩
        obtain ⟨n2, k2, hc2, hw⟩ := hw
        rw [hx] at hc2
        cases hc2
        rcases hw with ⟨e1, e2⟩ | ⟨e1, e2⟩
        · unfold nx0 at e1
          rw [hx] at e1
          cases e1
          exact ⟨P.length + M.length, Or.inr ⟨Nat.le_refl _, by simp⟩, h + 1, by rw [e2]; rfl, q h e⟩
        · unfold nx1 at e1
          rw [hx] at e1
          cases e1
      · have hx : (P ++ ([(10, a)] ++ S))[P.length]? = some (10, a) := gbM (i := 0) (by simp)
        refine Or.inr ⟨10, a, hx, by show tI 10 ≤ _; have : tI 10 = 0 := by decide
                                     omega, q2, fun t' h' hw => ?_⟩
        obtain ⟨n2, k2, hc2, hw⟩ := hw
        rw [hx] at hc2
        cases hc2
        rcases hw with ⟨e1, e2⟩ | ⟨e1, e2⟩
        · unfold nx0 at e1
          rw [hx] at e1
          cases e1
        · unfold nx1 at e1
          rw [hx] at e1
          dsimp only at e1
          rw [if_pos (by decide)] at e1
          obtain ⟨t2, e3, hR3⟩ := lR (M' := [(10, a)]) hM hM' hta
          rw [e3] at e1
          cases e1
          exact ⟨t, hR3, h, by rw [e2, if_neg (by decide)]; have : gI 10 = 0 := by decide
                               omega, q h e⟩
    · exact Or.inl ⟨i, hR, e, hsame hR hi hil⟩
  · by_cases h : i = P.length
    · subst h
      have hj : j = P.length := by unfold Rb at hR; omega
      subst hj
      exact Or.inr hB
    · exact Or.inl (hsame hR h hi)
end BLK
theorem typ_nx {c : Cod} {ht : Nat → Option Nat} (hT : Typ c ht) {i n h : Nat} {k : Int32} (hc : c[i]? = some (n, k)) (hn : n ≠ 10 ∧ n ≠ 16 ∧ n ≠ 17 ∧ n ≠ 18) (e : ht i = some h) : tI n ≤ h ∧ ∃ h2 : Nat, (h2 : Int) = h + gI n ∧ ht (i + 1) = some h2 := by
  obtain ⟨n', k', hc', q1, q2, q3⟩ := hT.2 i h e
  rw [hc] at hc'
  cases hc'
  obtain ⟨h2, e1, e2⟩ := q3 (i + 1) (h + gI n) ⟨n, k, hc, Or.inl ⟨by unfold nx0; rw [hc]; dsimp only; rw [if_neg (by omega), if_neg (by omega)], rfl⟩⟩
  exact ⟨q1, h2, e1.symm, e2⟩
theorem typ_jp {c : Cod} {ht : Nat → Option Nat} (hT : Typ c ht) {i n h t : Nat} {k : Int32} (hc : c[i]? = some (n, k)) (hn : n = 10 ∨ n = 11 ∨ n = 12) (hl : lbl c k = some t) (e : ht i = some h) : tI n ≤ h ∧ ∃ h2 : Nat, (h2 : Int) = h + gI n ∧ ht t = some h2 := by
  obtain ⟨n', k', hc', q1, q2, q3⟩ := hT.2 i h e
  rw [hc] at hc'
  cases hc'
  obtain ⟨h2, e1, e2⟩ := q3 t (h + gI n - (if n = 18 then 1 else 0)) ⟨n, k, hc, Or.inr ⟨by unfold nx1; rw [hc]; dsimp only; rw [if_pos hn]; exact hl, rfl⟩⟩
  rw [if_neg (by omega)] at e1
  exact ⟨q1, h2, by omega, e2⟩
theorem gIv : gI 0 = 1 ∧ gI 1 = 1 ∧ gI 5 = 0 ∧ gI 6 = 0 ∧ gI 7 = -1 ∧ gI 8 = -1 ∧ gI 10 = 0 ∧ gI 11 = -1 ∧ gI 12 = -1 ∧ gI 13 = 0 ∧ gI 14 = -1 := by decide
-- a step over one constant
theorem run_0 {c : Cod} {N i : Nat} {σ : List Int32} {loc wrd : Nat → Int32} {fu : Nat} {x : Int32} {r : Res} (hc : c[i]? = some (0, x)) (h : crun c N i σ loc wrd fu = some r) : ∃ N1, N = N1 + 1 ∧ σ.length < 61 ∧ crun c N1 (i + 1) (x :: σ) loc wrd fu = some r := by
  obtain ⟨N1, rfl, hl, ev, σ', loc', wrd', hm, h0, h1⟩ := crun_q hc ⟨by decide, by decide, by decide, by decide, by decide, by decide, by decide⟩ h
  first | rw [mdo_0] at hm | rw [mdo_1] at hm | rw [mdo_2] at hm | rw [mdo_3] at hm | rw [mdo_4] at hm | rw [mdo_7] at hm | rw [mdo_8] at hm | rw [mdo_9] at hm | rw [mdo_19] at hm | rw [mdo_20] at hm
  split at hm
  · next z => cases hm; exact ⟨N1, rfl, z, h0 rfl⟩
  · cases hm
theorem fwd_0 {c : Cod} {N i : Nat} {σ : List Int32} {loc wrd : Nat → Int32} {fu : Nat} {x : Int32} {r : Res} (hc : c[i]? = some (0, x)) (hl : σ.length < 61) (h : crun c N (i + 1) (x :: σ) loc wrd fu = some r) : crun c (N + 1) i σ loc wrd fu = some r := by
  rw [crun_p hc ⟨by decide, by decide, by decide, by decide, by decide, by decide, by decide⟩ (by omega) (by rw [mdo_0, if_pos hl])]
  exact h
theorem run_j {c : Cod} {N i : Nat} {σ : List Int32} {loc wrd : Nat → Int32} {fu : Nat} {a : Int32} {r : Res} (hc : c[i]? = some (10, a)) (h : crun c N i σ loc wrd fu = some r) : ∃ N1 t, N = N1 + 1 ∧ ¬ 61 < σ.length ∧ lbl c a = some t ∧ crun c N1 t σ loc wrd fu = some r := by
  obtain ⟨N1, rfl, hl⟩ := crun_l h
  rw [crun_s hc hl, if_neg (by decide), if_neg (by decide), if_neg (fun z => absurd z.1 (by decide))] at h
  have hm : mdo 10 a σ loc wrd = some (0, σ, loc, wrd) := rfl
  rw [hm] at h
  dsimp only at h
  rw [if_neg (by decide), if_neg (by decide)] at h
  unfold cgo at h
  rw [if_pos rfl] at h
  cases hl2 : lbl c a with
  | none => rw [hl2] at h; cases h
  | some t => rw [hl2] at h; exact ⟨N1, t, rfl, hl, rfl, h⟩
theorem fwd_j {c : Cod} {N i t : Nat} {σ : List Int32} {loc wrd : Nat → Int32} {fu : Nat} {a : Int32} {r : Res} (hc : c[i]? = some (10, a)) (hl : ¬ 61 < σ.length) (ht : lbl c a = some t) (h : crun c N t σ loc wrd fu = some r) : crun c (N + 1) i σ loc wrd fu = some r := by
  rw [crun_s hc hl, if_neg (by decide), if_neg (by decide), if_neg (fun z => absurd z.1 (by decide)), show mdo 10 a σ loc wrd = some (0, σ, loc, wrd) from rfl]
  dsimp only
  rw [if_neg (by decide), if_neg (by decide)]
  unfold cgo
  rw [if_pos rfl, ht]
  exact h
theorem run_b {c : Cod} {N i n : Nat} {y : Int32} {σ : List Int32} {loc wrd : Nat → Int32} {fu : Nat} {a : Int32} {r : Res} (hn : n = 11 ∨ n = 12) (hc : c[i]? = some (n, a)) (h : crun c N i (y :: σ) loc wrd fu = some r) : ∃ N1, N = N1 + 1 ∧ ((y = 0 ↔ n = 11) → ∃ t, lbl c a = some t ∧ crun c N1 t σ loc wrd fu = some r) ∧ (¬ (y = 0 ↔ n = 11) → crun c N1 (i + 1) σ loc wrd fu = some r) := by
  obtain ⟨N1, rfl, hl⟩ := crun_l h
  refine ⟨N1, rfl, ?_⟩
  rw [crun_s hc hl, if_neg (by omega), if_neg (by omega), if_neg (by omega)] at h
  have hm : mdo n a (y :: σ) loc wrd = some (0, y :: σ, loc, wrd) := by rcases hn with rfl | rfl <;> rfl
  rw [hm] at h
  dsimp only at h
  rw [if_neg (by decide), if_neg (by omega)] at h
  unfold cgo at h
  rw [if_neg (by omega), if_pos hn] at h
  dsimp only at h
  refine ⟨fun z => ?_, fun z => ?_⟩
  · rw [if_pos z] at h
    cases hl2 : lbl c a with
    | none => rw [hl2] at h; cases h
    | some t => rw [hl2] at h; exact ⟨t, rfl, h⟩
  · rw [if_neg z] at h
    exact h
theorem walk_l {c : Cod} {σ : List Int32} {loc wrd : Nat → Int32} {fu : Nat} {r : Res} (hl : ¬ 61 < σ.length) : ∀ (q j N : Nat), (∀ x, x < q → ∃ b, c[j + x]? = some (13, b)) → crun c N (j + q) σ loc wrd fu = some r → crun c (N + q) j σ loc wrd fu = some r
  | 0, j, N, _, h => h
  | q + 1, j, N, hb, h => by
    obtain ⟨b, hb0⟩ := hb 0 (by omega)
    rw [Nat.add_zero] at hb0
    have := walk_l hl q (j + 1) N (fun x hx => by obtain ⟨b, e⟩ := hb (x + 1) (by omega); exact ⟨b, by rw [show j + 1 + x = j + (x + 1) by omega]; exact e⟩) (by rw [show j + 1 + q = j + (q + 1) by omega]; exact h)
    rw [show N + (q + 1) = N + q + 1 by omega, crun_p hb0 ⟨by decide, by decide, by decide, by decide, by decide, by decide, by decide⟩ hl rfl]
    exact this
theorem nxl_at {a : Int32} : ∀ {r : Cod}, nxl a r = true → ∃ q : Nat, r[q]? = some (13, a) ∧ ∀ x, x < q → ∃ b, r[x]? = some (13, b)
  | [], h => by cases h
  | (n, k) :: r, h => by
    rw [nxl] at h
    by_cases hn : n = 13
    · rw [if_pos hn] at h
      by_cases hk : k = a
      · exact ⟨0, by rw [hn, hk]; rfl, fun x hx => by omega⟩
      · rw [if_neg hk] at h
        obtain ⟨q, h1, h2⟩ := nxl_at h
        refine ⟨q + 1, h1, fun x hx => ?_⟩
        cases x with
        | zero => exact ⟨k, by rw [hn]; rfl⟩
        | succ x => exact h2 x (by omega)
    · rw [if_neg hn] at h; cases h
