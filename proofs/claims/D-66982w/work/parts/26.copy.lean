/-! arrays: a run is copied; a field takes another field's array -/
section VCPY
variable {E : Bs} {p : Program} {l : Launch} {e : Env} {R : Room} {s : State} {m : MethodId} {args : Array Value} {below : List Frame} {meth : Method} {c : Code} {cc : ByteArray} {own : String} {nL : Nat} {ret : Option FieldType} {cells slots : Nat} {Q : State → Prop} {pc idx : Nat} {L : List (Option Value)} {S : List Value}
variable {DO DA : Nat → Prop} {H0 : Heap} {ρ : Nat → Nat} {g A : Nat → Nat → Int32} {n : Nat → Nat} {tx : Value}
theorem v_copy (G : Gd E p s m args meth c cc own nL ret) (i j N : Nat) {x : Int32} (d : decode cc pc = .ok (.invokestatic idx, 3)) (hlk : Cond.methodLink own idx arraycopyName ∈ lw_tbl) (hDi : DA i) (hDj : DA j) (hti : ta i = 0) (htj : ta j = 0) (hx : x = nI N) (h0 : N ≤ n i) (h1 : N ≤ n j) (hfr : 1 ≤ R.frames) (hlo : (S.map fun v => v.category).sum + (nativeFrameWords "java/lang/System" "arraycopy" 5 + 11) ≤ R.locals)
    (kk : V p l e R s m args below meth c nL (Sy E DO DA H0 ρ g (va_up A j (va_cpy (A i) (A j) 0 0 N)) n tx) cells slots Q (pc + 3) L S) : V p l e R s m args below meth c nL (Sy E DO DA H0 ρ g A n tx) cells slots Q pc L (.int x :: .int 0 :: .ref (ρ j) :: .int 0 :: .ref (ρ i) :: S) := by
  intro H locs ls hX hl T hT XX
  subst hx
  obtain ⟨hAi, -, hni⟩ := hX.1.2.1 i hDi
  obtain ⟨hAj, hFj, hnj⟩ := hX.1.2.1 j hDj
  rw [hti] at hAi
  rw [htj] at hAj
  have hN : N < 2147483648 := by omega
  have hcl : (nI N).toNatClampNeg = N := nI_clamp hN
  have hAr : ArrOfT s (E.cA 0) .int := (gArr G 0 (by decide)).1
  obtain ⟨-, k0, hk0, cm0, hkk0⟩ := hAr (n i) (fun q => .int (A i q))
  obtain ⟨-, k1, hk1, cm1, hkk1⟩ := hAr (n j) (fun q => .int (A j q))
  obtain ⟨vm', X', step⟩ := XX.arraycopy G.1 (gown G) (gw G hlk rfl) (gw G tm_316 rfl) (gw G tm_315 rfl) (gw G tm_8 rfl) (src := ρ i) (dst := ρ j) (srcPos := 0) (destPos := 0) (n := nI N) (by rw [hT]; exact hAi) (by rw [hT]; exact hAj)
    (fun _ h => by cases h) (fun _ h => by cases h) (fun h => by cases h) (fun h => by cases h) hk0 hk1 hkk0 hkk1 (by decide) (by decide) (by decide) (nI_pos hN)
    (by rw [nI_toInt hN, arrV_size]; show ¬ (0 : Int) + (N : Int) > _; omega) (by rw [nI_toInt hN, arrV_size]; show ¬ (0 : Int) + (N : Int) > _; omega)
    (fun vm1 _ q hq => by
      rw [hcl] at hq
      have e : (arrV (E.cA 0) (n i) (fun q => Value.int (A i q))).slots.getD ((0 : Int32).toNatClampNeg + q) .null = .int (A i q) := by
        rw [show (0 : Int32).toNatClampNeg + q = q from Nat.zero_add q, Array.getD_eq_getD_getElem?, arrV_read _ _ (by omega)]
        rfl
      rw [e]
      exact ⟨rfl, trivial⟩)
    (g := F0 m pc ls (.int (nI N) :: .int 0 :: .ref (ρ j) :: .int 0 :: .ref (ρ i) :: S)) rfl (by rw [gml G]; exact hl.1) (rest := S) rfl (by rw [G.2.1]; exact d) hfr (by show 2 * 0 + _ + _ ≤ _; omega)
  have e1 : copied (arrV (E.cA 0) (n i) (fun q => Value.int (A i q))) (arrV (E.cA 0) (n j) (fun q => Value.int (A j q))) 0 0 (nI N) = arrV (E.cA 0) (n j) (fun q => .int (va_cpy (A i) (A j) 0 0 N q)) := by
    have := va_copied (fun z => Value.int z) (E.cA 0) (E.cA 0) (n0 := n i) (n1 := n j) (sp := 0) (dp := 0) (n := N) (A i) (A j) (by omega)
    unfold copied
    rw [hcl]
    exact this
  rw [e1] at X' step
  have hlt : ρ j < H.size := (Array.getElem?_eq_some_iff.mp hAj).1
  have oq : ∀ (z : Cell) (q : Nat), q ≠ ρ j → (H.setIfInBounds (ρ j) z)[q]? = H[q]? := fun z q hq => by simp [Array.getElem?_setIfInBounds, Ne.symm hq]
  have oa : ∀ z : Cell, (H.setIfInBounds (ρ j) z)[ρ j]? = some z := fun z => by simp [Array.getElem?_setIfInBounds, hlt]
  obtain ⟨t, a1, b1⟩ := kk (H.setIfInBounds (ρ j) _) _ ls ⟨hX.1.arr hDj (by rw [htj]; exact oa _) (oq _), by simp; exact hX.2.1, fun q g1 g2 => (oq _ q (fun z => g2 (by rw [z]; exact hFj))).trans (hX.2.2.1 q g1 g2), fun q hq => by
      rcases List.mem_append.mp hq with h | h
      · exact hX.2.2.2 q h
      · obtain ⟨z, -, hz⟩ := List.mem_map.mp h
        rw [← hz]
        exact hFj⟩ hl _ (by rw [← hT]; rfl) X'
  exact ⟨t, step t a1, b1⟩
/-- a field of array i takes the array j, that another field has: what it had gets the number t -/
theorem v_take (G : Gd E p s m args meth c cc own nL ret) {k f i : Nat} (t j : Nat) (d : decode cc pc = .ok (.putfield idx, 3)) (h : FA DO own idx k f i) (hnf : (FT k f).2.2.2 = false) (hn : narrow (TY k f) (.ref (ρ j)) = .ref (ρ j)) (hfit : fits (TY k f) (.ref (ρ j)) = true) (hDi : DA i) (hDt : ¬ DA t) (hta : ta t = ta i) (hu : ∀ k', k' < 7 → ∀ j, j < 24 → (kd k' j = i + 1 → k' = k ∧ j = f) ∧ kd k' j ≠ t + 1)
    (kk : V p l e R s m args below meth c nL (Sy E DO (fun x => (DA x ∧ x ≠ i) ∨ x = t) H0 (va_up (va_up ρ t (ρ i)) i (ρ j)) g (va_up A t (A i)) (va_up n t (n i)) tx) cells slots Q (pc + 3) L S) : V p l e R s m args below meth c nL (Sy E DO DA H0 ρ g A n tx) cells slots Q pc L (.ref (ρ j) :: .ref (E.o k) :: S) := by
  intro H locs ls hX hl
  obtain ⟨h1, h2, h3, h5, h4⟩ := h
  obtain ⟨hk, hO, hFk⟩ := hX.1.1 k h4
  have hti : t ≠ i := fun z => hDt (z ▸ hDi)
  have key : ∀ k' j', k' < 7 → j' < 24 → ¬ (k' = k ∧ j' = f) → fld E.o (va_up (va_up ρ t (ρ i)) i (ρ j)) g tx k' j' = fld E.o ρ g tx k' j' := by
    intro k' j' hk' hj' hne
    unfold fld
    by_cases e0 : kd k' j' = 0
    · simp [e0]
    · by_cases e1 : kd k' j' < 50
      · simp only [e0, e1, if_false, if_true]
        rw [va_up_ne _ _ (fun z => hne ((hu k' hk' j' hj').1 (by omega))), va_up_ne _ _ (fun z => (hu k' hk' j' hj').2 (by omega))]
      · by_cases e2 : kd k' j' < 60 <;> simp [e0, e1, e2]
  refine w_put G hk h2 hnf h1 hO hn hfit d fun H' ix hO' hz hq => kk H' _ ls ⟨?_, hX.2.put hz hq hFk⟩ hl
  obtain ⟨g1, g2, g3, g4, g5⟩ := hX.1
  -- an array's old number
  have as : ∀ x, ((DA x ∧ x ≠ i) ∨ x = t) → ∃ y, DA y ∧ (y = if x = t then i else x) ∧ va_up (va_up ρ t (ρ i)) i (ρ j) x = ρ y ∧ va_up A t (A i) x = A y ∧ va_up n t (n i) x = n y ∧ ta x = ta y := by
    intro x hx
    by_cases e : x = t
    · subst e
      exact ⟨i, hDi, (if_pos rfl).symm, by rw [va_up_ne _ _ hti]; exact va_up_self _ _ _, va_up_self _ _ _, va_up_self _ _ _, hta⟩
    · obtain ⟨q1, q2⟩ := hx.resolve_right e
      exact ⟨x, q1, (if_neg e).symm, by rw [va_up_ne _ _ q2, va_up_ne _ _ e], va_up_ne _ _ e, va_up_ne _ _ e, rfl⟩
  refine ⟨fun k' hk' => ?_, fun x hx => ?_, g3, fun x y hx hy hxy => ?_, fun k' x hk' hx => ?_⟩
  · by_cases e : k' = k
    · subst e
      refine ⟨hk, hO'.to fun j' hj => ?_, (g1 k' hk').2.2⟩
      by_cases ej : j' = f
      · subst ej
        rw [if_pos rfl, fld_a h3 h5, va_up_self]
      · rw [if_neg ej, key k' j' hk (Nat.lt_of_lt_of_le hj (NF_le k' hk)) (fun z => ej z.2)]
    · refine ⟨(g1 k' hk').1, ((g1 k' hk').2.1.kept (hq _ fun z => e (g3 _ _ hk' h4 z))).to fun j' hj => (key k' j' (g1 k' hk').1 (Nat.lt_of_lt_of_le hj (NF_le k' (g1 k' hk').1)) (fun z => e z.1)).symm, (g1 k' hk').2.2⟩
  · obtain ⟨y, hy, -, e1, e2, e3, e4⟩ := as x hx
    rw [e1, e2, e3, e4, hq _ fun z => g5 k _ h4 hy z.symm]
    exact g2 y hy
  · obtain ⟨x', hx', ex, e1, -⟩ := as x hx
    obtain ⟨y', hy', ey, e2, -⟩ := as y hy
    rw [e1, e2] at hxy
    have hxy := g4 _ _ hx' hy' hxy
    rw [ex, ey] at hxy
    by_cases a1 : x = t <;> by_cases a2 : y = t
    · rw [a1, a2]
    · rw [if_pos a1, if_neg a2] at hxy
      exact absurd hxy.symm (hy.resolve_right a2).2
    · rw [if_neg a1, if_pos a2] at hxy
      exact absurd hxy (hx.resolve_right a1).2
    · rwa [if_neg a1, if_neg a2] at hxy
  · obtain ⟨x', hx', -, e1, -⟩ := as x hx
    rw [e1]
    exact g5 k' _ hk' hx'
end VCPY

