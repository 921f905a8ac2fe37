/-! Loader, pure: words of lines, places that wait for labels -/
def wpos : Lns → Nat → List Nat
  | [], _ => []
  | (i, _) :: r, n => if i = 14 then wpos r n else if isL i = true then n :: wpos r (n + 1) else wpos r (n + 1)
theorem wpos_app (s : Lns) : ∀ (p : Lns) (n : Nat), wpos (p ++ s) n = wpos p n ++ wpos s (n + (nl p).length)
  | [], n => rfl
  | (i, v) :: r, n => by
    rw [List.cons_append, wpos, wpos]
    by_cases h : i = 14
    · rw [if_pos h, if_pos h, wpos_app s r, h, nl_n]
    · rw [if_neg h, if_neg h, wpos_app s r, nl_y h, List.length_cons, show n + 1 + (nl r).length = n + ((nl r).length + 1) by omega]
      split <;> rfl
theorem cL_app (p s : Lns) : cL (p ++ s) = cL p + cL s := by
  unfold cL
  rw [List.map_append, List.sum_append]
theorem cL_1 (i : Nat) (v : Int32) : cL [(i, v)] = bL i := by simp [cL]
theorem wpos_len : ∀ (ls : Lns) (n : Nat), (wpos ls n).length = cL ls
  | [], n => rfl
  | (i, v) :: r, n => by
    have e : cL ((i, v) :: r) = bL i + cL r := by simp [cL]
    rw [wpos, e]
    by_cases h : i = 14
    · rw [if_pos h, wpos_len r n, h]
      have : bL 14 = 0 := rfl
      omega
    · rw [if_neg h]
      unfold bL
      split
      · next z => rw [List.length_cons, wpos_len r (n + 1)]; omega
      · rw [wpos_len r (n + 1)]; omega
theorem wpos_ge : ∀ (ls : Lns) (n p : Nat), p ∈ wpos ls n → n ≤ p
  | [], n, p, h => by cases h
  | (i, v) :: r, n, p, h => by
    rw [wpos] at h
    split at h
    · exact wpos_ge r n p h
    · split at h
      · rcases List.mem_cons.mp h with z | z
        · omega
        · have := wpos_ge r (n + 1) p z; omega
      · have := wpos_ge r (n + 1) p h; omega
theorem wpos_nd : ∀ (ls : Lns) (n : Nat), (wpos ls n).Nodup
  | [], n => List.nodup_nil
  | (i, v) :: r, n => by
    rw [wpos]
    split
    · exact wpos_nd r n
    · split
      · refine List.nodup_cons.mpr ⟨fun h => ?_, wpos_nd r (n + 1)⟩
        have := wpos_ge r (n + 1) n h
        omega
      · exact wpos_nd r (n + 1)
theorem wpos_in : ∀ (ls : Lns) (n p : Nat), p ∈ wpos ls n ↔ n ≤ p ∧ ∃ x, (nl ls)[p - n]? = some x ∧ isL x.1 = true
  | [], n, p => by
    constructor
    · intro h; cases h
    · rintro ⟨-, x, h, -⟩; simp [nl] at h
  | (i, v) :: r, n, p => by
    rw [wpos]
    by_cases h : i = 14
    · rw [if_pos h, h, nl_n]
      exact wpos_in r n p
    · rw [if_neg h, nl_y h]
      have ih := wpos_in r (n + 1) p
      have hs : n + 1 ≤ p → ((i, v) :: nl r)[p - n]? = (nl r)[p - (n + 1)]? := fun z => by
        rw [show p - n = (p - (n + 1)) + 1 by omega, List.getElem?_cons_succ]
      by_cases hl : isL i = true
      · rw [if_pos hl, List.mem_cons]
        constructor
        · rintro (rfl | z)
          · exact ⟨Nat.le_refl _, (i, v), by rw [Nat.sub_self]; rfl, hl⟩
          · obtain ⟨z1, x, z2, z3⟩ := ih.mp z
            exact ⟨by omega, x, by rw [hs z1]; exact z2, z3⟩
        · rintro ⟨z1, x, z2, z3⟩
          by_cases e : p = n
          · exact Or.inl e
          · exact Or.inr (ih.mpr ⟨by omega, x, by rw [← hs (by omega)]; exact z2, z3⟩)
      · rw [if_neg hl]
        constructor
        · intro z
          obtain ⟨z1, x, z2, z3⟩ := ih.mp z
          exact ⟨by omega, x, by rw [hs z1]; exact z2, z3⟩
        · rintro ⟨z1, x, z2, z3⟩
          by_cases e : p = n
          · subst e
            rw [Nat.sub_self] at z2
            cases z2
            exact absurd z3 hl
          · exact ih.mpr ⟨by omega, x, by rw [← hs (by omega)]; exact z2, z3⟩
/-- the word of a line, its label not yet known -/
def rawW (x : Nat × Int32) : Int32 := if x.1 = 11 then x.2 else enc x.1 x.2
/-- the word of a line whose label's place is known -/
def finW (x : Nat × Int32) : Int32 := if x.1 = 11 then x.2 else if isL x.1 = true then bas x.1 ||| nI (65536 + x.2.toNatClampNeg) else enc x.1 x.2
def insK (i : Nat) : Prop := i = 0 ∨ i = 1 ∨ i = 2 ∨ i = 5 ∨ i = 6 ∨ i = 7 ∨ i = 9 ∨ i = 12 ∨ i = 13 ∨ i = 15
def LnOK (ls : Lns) : Prop := ∀ x, x ∈ ls → (insK x.1 ∨ x.1 = 11 ∨ x.1 = 14) ∧ (x.1 = 14 ∨ isL x.1 = true → ∃ j, j ≤ 163 ∧ x.2 = nI j) ∧ (isL x.1 = true → ∃ p, p < 4096 ∧ la ls x.2 = some p)
theorem enc_lab : ∀ j, j < 164 → ∀ i, i < 16 → isL i = true → enc i (nI j) &&& 33554431 = nI j ∧ enc i (nI j) &&& (-33554432) = bas i := by decide +kernel
/-- words so far -/
def WdR (W : Nat → Int32) (pre : Lns) : Prop := ∀ p x, (nl pre)[p]? = some x → W p = rawW x
theorem WdR.push {W : Nat → Int32} {pre : Lns} {i : Nat} {v w : Int32} (h : WdR W pre) (hi : i ≠ 14) (hw : w = rawW (i, v)) : WdR (va_up W (nl pre).length w) (pre ++ [(i, v)]) := by
  intro p x hp
  rw [nl_app, nl_y hi] at hp
  by_cases e : p < (nl pre).length
  · rw [List.getElem?_append_left e] at hp
    rw [va_up_ne _ _ (by omega)]
    exact h p x hp
  · rw [List.getElem?_append_right (by omega)] at hp
    have hl := (List.getElem?_eq_some_iff.mp hp).1
    rw [show nl ([] : Lns) = [] from rfl] at hl
    simp only [List.length_cons, List.length_nil] at hl
    have e2 : p = (nl pre).length := by omega
    rw [e2, Nat.sub_self] at hp
    cases hp
    rw [e2, va_up_self, hw]
theorem WdR.lab {W : Nat → Int32} {pre : Lns} {v : Int32} (h : WdR W pre) : WdR W (pre ++ [(14, v)]) := by
  intro p x hp
  rw [nl_app, nl_n] at hp
  simp only [nl, List.filter_nil, List.append_nil] at hp
  exact h p x hp
def WtR (f : Nat → Int32) (pre : Lns) : Prop := ∀ j p, (wpos pre 0)[j]? = some p → f j = nI p
theorem WtR.push {f : Nat → Int32} {pre : Lns} {i : Nat} {v : Int32} (h : WtR f pre) (hi : isL i = true) : WtR (va_up f (cL pre) (nI (nl pre).length)) (pre ++ [(i, v)]) := by
  have h14 : i ≠ 14 := fun z => by rw [z] at hi; cases hi
  intro j p hp
  rw [wpos_app, Nat.zero_add, wpos, if_neg h14, if_pos hi, wpos] at hp
  have hlen := wpos_len pre 0
  by_cases e : j < (wpos pre 0).length
  · rw [List.getElem?_append_left e] at hp
    rw [va_up_ne _ _ (by omega)]
    exact h j p hp
  · rw [List.getElem?_append_right (by omega)] at hp
    have hl := (List.getElem?_eq_some_iff.mp hp).1
    simp at hl
    have e2 : j = (wpos pre 0).length := by omega
    rw [e2, Nat.sub_self] at hp
    cases hp
    rw [e2, hlen, va_up_self]
theorem WtR.skip {f : Nat → Int32} {pre : Lns} {i : Nat} {v : Int32} (h : WtR f pre) (hi : isL i = false) : WtR f (pre ++ [(i, v)]) := by
  intro j p hp
  rw [wpos_app, Nat.zero_add, wpos] at hp
  by_cases h14 : i = 14
  · rw [if_pos h14, wpos, List.append_nil] at hp
    exact h j p hp
  · rw [if_neg h14, if_neg (by rw [hi]; decide), wpos, List.append_nil] at hp
    exact h j p hp
def LbR (f : Nat → Int32) (N : Nat) (pre : Lns) : Prop := ∀ j p, j ≤ 163 → la pre (nI j) = some p → j < N ∧ f j = nI (65536 + p)
theorem la_snoc (pre : Lns) (i : Nat) (v w : Int32) : la (pre ++ [(i, v)]) w = (if i = 14 ∧ v = w then some (nl pre).length else la pre w) := by
  unfold la
  rw [laF_app, Nat.zero_add, laF]
  by_cases h : i = 14
  · rw [if_pos h, laF]
    by_cases h2 : v = w
    · rw [if_pos h2, if_pos ⟨h, h2⟩]
    · rw [if_neg h2, if_neg (fun z => h2 z.2)]
  · rw [if_neg h, laF, if_neg (fun z => h z.1)]
theorem LbR.skip {f : Nat → Int32} {N : Nat} {pre : Lns} {i : Nat} {v : Int32} (h : LbR f N pre) (hi : i ≠ 14) : LbR f N (pre ++ [(i, v)]) := by
  intro j p hj hp
  rw [la_snoc, if_neg (fun z => hi z.1)] at hp
  exact h j p hj hp
theorem LbR.push {f f' : Nat → Int32} {N N' : Nat} {pre : Lns} {j0 : Nat} (h : LbR f N pre) (hj0 : j0 ≤ 163) (hN : N ≤ N') (hlt : j0 < N') (hf : ∀ j, j < N → f' j = f j) : LbR (va_up f' j0 (nI (65536 + (nl pre).length))) N' (pre ++ [(14, nI j0)]) := by
  intro j p hj hp
  rw [la_snoc] at hp
  by_cases e : j = j0
  · subst e
    rw [if_pos ⟨rfl, rfl⟩] at hp
    cases hp
    exact ⟨hlt, va_up_self _ _ _⟩
  · rw [if_neg (fun z => e ((nI_eq (a := j0) (b := j) (by omega) (by omega)).mp z.2).symm)] at hp
    obtain ⟨h1, h2⟩ := h j p hj hp
    refine ⟨by omega, ?_⟩
    rw [va_up_ne _ _ e, hf j h1]
    exact h2
/-- words, the first k of those that wait being mended -/
def WdP (W : Nat → Int32) (ls : Lns) (k : Nat) : Prop := ∀ p x, (nl ls)[p]? = some x → W p = (if p ∈ (wpos ls 0).drop k then rawW x else finW (cmp1 (la ls) x))
theorem WdP.zero {W : Nat → Int32} {ls : Lns} (h : WdR W ls) : WdP W ls 0 := by
  intro p x hp
  rw [List.drop_zero]
  by_cases hm : p ∈ wpos ls 0
  · rw [if_pos hm]; exact h p x hp
  · rw [if_neg hm, h p x hp]
    have hl : isL x.1 = false := by
      cases e : isL x.1 with
      | false => rfl
      | true => exact absurd ((wpos_in ls 0 p).mpr ⟨Nat.zero_le _, x, hp, e⟩) hm
    obtain ⟨i, v⟩ := x
    rw [cmp1_n hl]
    unfold rawW finW
    split
    · rfl
    · rw [if_neg (by rw [hl]; decide)]
theorem WdP.step {W : Nat → Int32} {ls : Lns} {k p : Nat} {w : Int32} {x : Nat × Int32} (h : WdP W ls k) (hk : (wpos ls 0)[k]? = some p) (hx : (nl ls)[p]? = some x) (hw : w = finW (cmp1 (la ls) x)) : WdP (va_up W p w) ls (k + 1) := by
  intro p' x' hp'
  have hkl := (List.getElem?_eq_some_iff.mp hk).1
  have hd : (wpos ls 0).drop k = p :: (wpos ls 0).drop (k + 1) := by
    rw [List.drop_eq_getElem_cons hkl]
    congr 1
    exact (List.getElem?_eq_some_iff.mp hk).2
  have hnd : (p :: (wpos ls 0).drop (k + 1)).Nodup := by rw [← hd]; exact (wpos_nd ls 0).sublist (List.drop_sublist _ _)
  by_cases e : p' = p
  · subst e
    rw [hx] at hp'
    cases hp'
    rw [va_up_self, if_neg (List.nodup_cons.mp hnd).1, hw]
  · rw [va_up_ne _ _ e, h p' x' hp', hd]
    by_cases hm : p' ∈ (wpos ls 0).drop (k + 1)
    · rw [if_pos hm, if_pos (List.mem_cons_of_mem _ hm)]
    · rw [if_neg hm, if_neg (fun z => (List.mem_cons.mp z).elim e hm)]
/-- all words -/
def WdF (W : Nat → Int32) (ls : Lns) : Prop := ∀ p x, (cmp ls)[p]? = some x → W p = finW x
theorem WdP.fin {W : Nat → Int32} {ls : Lns} {k : Nat} (h : WdP W ls k) (hk : cL ls ≤ k) : WdF W ls := by
  intro p x hp
  unfold cmp at hp
  rw [List.getElem?_map] at hp
  cases hn : (nl ls)[p]? with
  | none => rw [hn] at hp; cases hp
  | some y =>
    rw [hn] at hp
    cases hp
    rw [h p y hn, List.drop_eq_nil_of_le (by rw [wpos_len]; exact hk), if_neg List.not_mem_nil]
theorem fin_lab {f : Int32 → Option Nat} {i p j : Nat} (hl : isL i = true) (hj : j ≤ 163) (hp : f (nI j) = some p) (hp2 : p < 4096) : (rawW (i, nI j) &&& (-33554432)) ||| nI (65536 + p) = finW (cmp1 f (i, nI j)) ∧ rawW (i, nI j) &&& 33554431 = nI j := by
  have hi : i < 16 := by unfold isL at hl; simp at hl; omega
  have h11 : i ≠ 11 := fun z => by rw [z] at hl; cases hl
  obtain ⟨e1, e2⟩ := enc_lab j (by omega) i hi hl
  rw [cmp1_l hl hp]
  unfold rawW finW
  dsimp only
  rw [if_neg h11, if_neg h11, if_pos hl, e1, e2, nI_clamp (by omega)]
  exact ⟨rfl, rfl⟩
