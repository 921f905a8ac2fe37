/-! a code as a list: its labels, its ways, heights, circles: pure -/
def mkC (num arg : Nat → Int32) (sz : Nat) : Cod := (List.range sz).map fun i => ((num i).toNatClampNeg, arg i)
theorem mkC_len (num arg : Nat → Int32) (sz : Nat) : (mkC num arg sz).length = sz := by simp [mkC]
theorem mkC_get {num arg : Nat → Int32} {sz i : Nat} (h : i < sz) : (mkC num arg sz)[i]? = some ((num i).toNatClampNeg, arg i) := by
  simp [mkC, h]
def argOK (n : Nat) (k : Int32) : Bool := if n = 1 ∨ n = 2 then inR k 16 else if n = 7 then inR k 11 else if n = 8 ∨ n = 9 then inR k 6 else if n = 10 ∨ n = 11 ∨ n = 12 ∨ n = 13 then inR k 100 else true
def LabC (cd : Cod) : Prop := ∀ i n k, cd[i]? = some (n, k) → n ≤ 20 ∧ argOK n k = true ∧ (n = 13 → lbl cd k = some i) ∧ (n = 10 ∨ n = 11 ∨ n = 12 → ∃ j, lbl cd k = some j) ∧ (n = 18 → ∃ k', cd[i + 1]? = some (12, k'))
theorem dec_in {a : Int32} {m : Nat} (hm : m < 2147483648) : decide ((0 : Int32) ≤ a ∧ a ≤ nI m) = inR a (m + 1) := by
  unfold inR
  rw [decide_eq_decide, Int32.le_iff_toInt_le, Int32.le_iff_toInt_le, nI_toInt (by omega), show (0 : Int32).toInt = 0 from rfl]
  omega
theorem good1_ok {x a : Int32} (h : good1 x a = true) : ∃ m : Nat, m ≤ 20 ∧ x = nI m ∧ argOK m a = true := by
  have lit : ∀ m : Nat, m ≤ 20 → x = nI m → (good1 x a = argOK m a ∨ argOK m a = true) := by
    intro m hm hx
    subst hx
    have e : ∀ b : Nat, b < 30 → ((nI m = nI b) ↔ m = b) := fun b hb => nI_eq (by omega) (by omega)
    have d15 : decide ((0 : Int32) ≤ a ∧ a ≤ 15) = inR a 16 := dec_in (m := 15) (by omega)
    have d10 : decide ((0 : Int32) ≤ a ∧ a ≤ 10) = inR a 11 := dec_in (m := 10) (by omega)
    have d5 : decide ((0 : Int32) ≤ a ∧ a ≤ 5) = inR a 6 := dec_in (m := 5) (by omega)
    have d99 : decide ((0 : Int32) ≤ a ∧ a ≤ 99) = inR a 100 := dec_in (m := 99) (by omega)
    rcases (show m = 0 ∨ m = 1 ∨ m = 2 ∨ m = 3 ∨ m = 4 ∨ m = 5 ∨ m = 6 ∨ m = 7 ∨ m = 8 ∨ m = 9 ∨ m = 10 ∨ m = 11 ∨ m = 12 ∨ m = 13 ∨ m = 14 ∨ m = 15 ∨ m = 16 ∨ m = 17 ∨ m = 18 ∨ m = 19 ∨ m = 20 by omega) with rfl | rfl | rfl | rfl | rfl | rfl | rfl | rfl | rfl | rfl | rfl | rfl | rfl | rfl | rfl | rfl | rfl | rfl | rfl | rfl | rfl
    all_goals first | exact Or.inr rfl | exact Or.inl d15 | exact Or.inl d10 | exact Or.inl d5 | exact Or.inl d99
  have hx : ∃ m : Nat, m ≤ 20 ∧ x = nI m := by
    unfold good1 at h
    split at h
    · next hc => exact hc.elim (fun q => ⟨1, by omega, q⟩) (fun q => ⟨2, by omega, q⟩)
    · split at h
      · next hc => exact ⟨7, by omega, hc⟩
      · split at h
        · next hc => exact hc.elim (fun q => ⟨8, by omega, q⟩) (fun q => ⟨9, by omega, q⟩)
        · split at h
          · next hc => exact hc.elim (fun q => ⟨10, by omega, q⟩) (fun q => q.elim (fun q => ⟨11, by omega, q⟩) (fun q => q.elim (fun q => ⟨12, by omega, q⟩) (fun q => ⟨13, by omega, q⟩)))
          · rw [show decide ((0 : Int32) ≤ x ∧ x ≤ 20) = inR x 21 from dec_in (m := 20) (by omega)] at h
            obtain ⟨j, h1, h2, -⟩ := inR_nI h
            exact ⟨j, by omega, h2⟩
  obtain ⟨m, hm, hx⟩ := hx
  rcases lit m hm hx with q | q
  · exact ⟨m, hm, hx, by rw [← q]; exact h⟩
  · exact ⟨m, hm, hx, q⟩
theorem LabOK_code {num arg : Nat → Int32} {sz : Nat} (h : LabOK num arg sz) : CodeIs (mkC num arg sz) num arg := by
  intro i n k hi
  have hl : i < sz := by have := (List.getElem?_eq_some_iff.mp hi).1; rw [mkC_len] at this; exact this
  rw [mkC_get hl] at hi
  obtain ⟨m, hm, hx, -⟩ := good1_ok (h i hl).1
  simp only [Option.some.injEq, Prod.mk.injEq] at hi
  obtain ⟨h1, h2⟩ := hi
  rw [hx, nI_clamp (by omega)] at h1
  subst h1
  exact ⟨hx, h2, hm⟩
theorem nI_m1 {j : Nat} (h : j < 2147483648) : ¬ nI j = -1 := fun z => by
  have := congrArg Int32.toInt z
  rw [nI_toInt h] at this
  have : (j : Int) = -1 := this
  omega
theorem lblF_ok : ∀ (c : Cod) (lab : Int32) (i j : Nat), lblF c lab i = some j → i ≤ j ∧ c[j - i]? = some (13, lab)
  | [], lab, i, j, h => by cases h
  | (n, k) :: r, lab, i, j, h => by
    rw [lblF] at h
    by_cases hc : n = 13 ∧ k = lab
    · rw [if_pos hc] at h
      cases h
      rw [Nat.sub_self]
      exact ⟨Nat.le_refl _, by rw [List.getElem?_cons_zero, hc.1, hc.2]⟩
    · rw [if_neg hc] at h
      obtain ⟨h1, h2⟩ := lblF_ok r lab (i + 1) j h
      refine ⟨by omega, ?_⟩
      rw [show j - i = (j - (i + 1)) + 1 by omega, List.getElem?_cons_succ]
      exact h2
theorem lbl_ok {c : Cod} {lab : Int32} {j : Nat} (h : lbl c lab = some j) : c[j]? = some (13, lab) := by
  have := (lblF_ok c lab 0 j h).2
  rwa [Nat.sub_zero] at this
theorem lbl_lt {c : Cod} {lab : Int32} {j : Nat} (h : lbl c lab = some j) : j < c.length := (List.getElem?_eq_some_iff.mp (lbl_ok h)).1
theorem LabOK_C {num arg : Nat → Int32} {sz : Nat} (hsz : sz ≤ 400) (h : LabOK num arg sz) : LabC (mkC num arg sz) := by
  have hC := LabOK_code h
  intro i n k hi
  have hl : i < sz := by have := (List.getElem?_eq_some_iff.mp hi).1; rw [mkC_len] at this; exact this
  obtain ⟨c1, c2, c3⟩ := hC i n k hi
  obtain ⟨h1, h2, h3, h4⟩ := h i hl
  obtain ⟨m, hm, hx, ha⟩ := good1_ok h1
  have hmn : m = n := (nI_eq (by omega) (by omega)).mp (hx.symm.trans c1)
  subst hmn
  have ne : ∀ b : Nat, b < 100 → (num i = nI b ↔ m = b) := fun b hb => by rw [c1]; exact nI_eq (by omega) (by omega)
  have hp : plcI num arg sz k = (match lbl (mkC num arg sz) k with | some j => nI j | none => -1) := by
    have := plcI_lbl (lab := k) hC
    rwa [mkC_len] at this
  have lt : ∀ j, lbl (mkC num arg sz) k = some j → j < 2147483648 := fun j hj => by have := lbl_lt hj; rw [mkC_len] at this; omega
  refine ⟨hm, by rw [← c2]; exact ha, fun h13 => ?_, fun h10 => ?_, fun h18 => ?_⟩
  · have h2 := h2.resolve_left (fun z => z ((ne 13 (by omega)).mpr h13))
    rw [c2, hp] at h2
    cases hq : lbl (mkC num arg sz) k with
    | none => rw [hq] at h2; exact absurd h2.symm (nI_m1 (by omega))
    | some j => rw [hq] at h2; rw [(nI_eq (lt j hq) (by omega)).mp h2]
  · have hr : ¬ num i < 10 ∧ ¬ 12 < num i := by
      rw [c1]
      refine ⟨nI_nlt (a := m) (b := 10) (by omega) (by omega), nI_nlt (a := 12) (b := m) (by omega) (by omega)⟩
    have h3 := (h3.resolve_left hr.1).resolve_left hr.2
    rw [c2, hp] at h3
    cases hq : lbl (mkC num arg sz) k with
    | none => rw [hq] at h3; exact absurd rfl h3
    | some j => exact ⟨j, rfl⟩
  · obtain ⟨h5, h6⟩ := h4.resolve_left (fun z => z ((ne 18 (by omega)).mpr h18))
    refine ⟨arg (i + 1), ?_⟩
    rw [mkC_get h5, h6]
    rfl
-- ways
def nx0 (cd : Cod) (i : Nat) : Option Nat := match cd[i]? with
  | some (n, _) => if n = 16 ∨ n = 17 ∨ n = 10 then none else if n = 18 then some (i + 2) else some (i + 1)
  | none => none
def nx1 (cd : Cod) (i : Nat) : Option Nat := match cd[i]? with
  | some (n, k) => if n = 10 ∨ n = 11 ∨ n = 12 then lbl cd k else if n = 18 then (match cd[i + 1]? with | some (_, k') => lbl cd k' | none => none) else none
  | none => none
def oI : Option Nat → Int32
  | some j => nI j
  | none => -1
theorem oI_eq (o : Option Nat) : oI o = (match o with | some j => nI j | none => -1) := by cases o <;> rfl
theorem wayI_0 {cd : Cod} {num arg : Nat → Int32} {i n sz : Nat} {k : Int32} (hC : CodeIs cd num arg) (hi : cd[i]? = some (n, k)) : wayI num arg sz i 0 = oI (nx0 cd i) := by
  obtain ⟨c1, c2, c3⟩ := hC i n k hi
  have ne : ∀ b : Nat, b < 100 → (num i = nI b ↔ n = b) := fun b hb => by rw [c1]; exact nI_eq (by omega) (by omega)
  have e16 : (num i = 16 ∨ num i = 17 ∨ num i = 10) ↔ (n = 16 ∨ n = 17 ∨ n = 10) := or_congr (ne 16 (by omega)) (or_congr (ne 17 (by omega)) (ne 10 (by omega)))
  have e18 : num i = 18 ↔ n = 18 := ne 18 (by omega)
  unfold wayI nx0
  rw [hi, if_pos rfl]
  dsimp only
  by_cases h1 : n = 16 ∨ n = 17 ∨ n = 10
  · rw [if_pos (e16.mpr h1), if_pos h1]; rfl
  · rw [if_neg (fun z => h1 (e16.mp z)), if_neg h1]
    by_cases h2 : n = 18
    · rw [if_pos (e18.mpr h2), if_pos h2]; rfl
    · rw [if_neg (fun z => h2 (e18.mp z)), if_neg h2]; rfl
theorem wayI_1 {cd : Cod} {num arg : Nat → Int32} {i n : Nat} {k : Int32} (hC : CodeIs cd num arg) (hL : LabC cd) (hi : cd[i]? = some (n, k)) : wayI num arg cd.length i 1 = oI (nx1 cd i) := by
  obtain ⟨c1, c2, c3⟩ := hC i n k hi
  have ne : ∀ b : Nat, b < 100 → (num i = nI b ↔ n = b) := fun b hb => by rw [c1]; exact nI_eq (by omega) (by omega)
  have e18 : num i = 18 ↔ n = 18 := ne 18 (by omega)
  have e10 : (10 ≤ num i ∧ num i ≤ 12) ↔ (n = 10 ∨ n = 11 ∨ n = 12) := by
    rw [c1, show (10 : Int32) ≤ nI n ↔ 10 ≤ n from nI_leI (a := 10) (b := n) (by omega) (by omega), show nI n ≤ (12 : Int32) ↔ n ≤ 12 from nI_leI (a := n) (b := 12) (by omega) (by omega)]
    omega
  unfold wayI nx1
  rw [hi, if_neg (by decide)]
  dsimp only
  by_cases h1 : n = 10 ∨ n = 11 ∨ n = 12
  · rw [if_pos (e10.mpr h1), if_pos h1, plcI_lbl hC, c2, oI_eq] <;> rfl
  · rw [if_neg (fun z => h1 (e10.mp z)), if_neg h1]
    by_cases h2 : n = 18
    · obtain ⟨k', hk⟩ := (hL i n k hi).2.2.2.2 h2
      rw [if_pos (e18.mpr h2), if_pos h2, plcI_lbl hC, hk, (hC _ _ _ hk).2.1, oI_eq] <;> rfl
    · rw [if_neg (fun z => h2 (e18.mp z)), if_neg h2]; rfl
def gI (n : Nat) : Int := (stv 1 n).toInt
def tI (n : Nat) : Int := (stv 0 n).toInt
def Way (cd : Cod) (i : Nat) (h : Int) (t : Nat) (h' : Int) : Prop := ∃ n k, cd[i]? = some (n, k) ∧ ((nx0 cd i = some t ∧ h' = h + gI n) ∨ (nx1 cd i = some t ∧ h' = h + gI n - (if n = 18 then 1 else 0)))
def Reach (cd : Cod) (i : Nat) (h : Int) : Prop := ∀ P : Nat → Int → Prop, P 0 0 → (∀ i h t h', P i h → Way cd i h t h' → P t h') → P i h
theorem Reach.zero (cd : Cod) : Reach cd 0 0 := fun _ h0 _ => h0
theorem Reach.step {cd : Cod} {i t : Nat} {h h' : Int} (hr : Reach cd i h) (hw : Way cd i h t h') : Reach cd t h' := fun P h0 hs => hs i h t h' (hr P h0 hs) hw
/-- heights that fit -/
def Typ (cd : Cod) (ht : Nat → Option Nat) : Prop := ht 0 = some 0 ∧ ∀ i h, ht i = some h → ∃ n k, cd[i]? = some (n, k) ∧ tI n ≤ h ∧ h ≤ 60 ∧ ∀ t h', Way cd i h t h' → ∃ h2 : Nat, h' = h2 ∧ ht t = some h2
theorem Typ.reach {cd : Cod} {ht : Nat → Option Nat} (hT : Typ cd ht) {i : Nat} {h : Int} (hr : Reach cd i h) : ∃ h2 : Nat, h = h2 ∧ ht i = some h2 := by
  refine hr (fun i h => ∃ h2 : Nat, h = h2 ∧ ht i = some h2) ⟨0, rfl, hT.1⟩ ?_
  rintro i h t h' ⟨h2, rfl, hi⟩ hw
  obtain ⟨n, k, -, -, -, q⟩ := hT.2 i h2 hi
  exact q t h' hw
def noTyp (cd : Cod) : Prop := ¬ ∃ ht, Typ cd ht
def Clo (cd : Cod) (H : Nat → Int32) (i : Nat) : Prop := ∃ (h n : Nat) (k : Int32), cd[i]? = some (n, k) ∧ H i = nI h ∧ h ≤ 60 ∧ tI n ≤ h ∧ ∀ t h', Way cd i h t h' → t < cd.length ∧ ∃ h2 : Nat, h' = h2 ∧ h2 ≤ 60 ∧ H t = nI h2
/-- the heights that an array tells are told by ways -/
def EvA (cd : Cod) (H : Nat → Int32) : Prop := ∀ i, i < cd.length → H i ≠ -1 → ∃ h : Nat, h ≤ 60 ∧ H i = nI h ∧ Reach cd i h
/-- the array of heights, all told -/
def HtsOK (cd : Cod) (H : Nat → Int32) : Prop := H 0 = nI 0 ∧ EvA cd H ∧ ∀ i, i < cd.length → H i ≠ -1 → Clo cd H i
def HLe (H H' : Nat → Int32) : Prop := ∀ i, H i ≠ -1 → H' i = H i
theorem HLe.rf (H : Nat → Int32) : HLe H H := fun _ _ => rfl
theorem HLe.trans {H H' H2 : Nat → Int32} (h1 : HLe H H') (h2 : HLe H' H2) : HLe H H2 := fun i hi => (h2 i (by rw [h1 i hi]; exact hi)).trans (h1 i hi)
theorem HLe.up {H : Nat → Int32} {t : Nat} {v : Int32} (h : H t = -1 ∨ H t = v) : HLe H (va_up H t v) := by
  intro i hi
  by_cases e : i = t
  · subst e
    rw [va_up_self]
    exact (h.resolve_left hi).symm
  · rw [va_up_ne _ _ e]
theorem Clo.mono {cd : Cod} {H H' : Nat → Int32} {i : Nat} (hle : HLe H H') (h : Clo cd H i) : Clo cd H' i := by
  obtain ⟨h0, n, k, q1, q2, q3, q4, q5⟩ := h
  refine ⟨h0, n, k, q1, ?_, q3, q4, fun t h' hw => ?_⟩
  · rw [hle i (by rw [q2]; exact nI_m1 (by omega))]; exact q2
  · obtain ⟨r1, h2, r2, r3, r4⟩ := q5 t h' hw
    exact ⟨r1, h2, r2, r3, by rw [hle t (by rw [r4]; exact nI_m1 (by omega))]; exact r4⟩
theorem HtsOK.typ {cd : Cod} {H : Nat → Int32} (hc : 0 < cd.length) (h : HtsOK cd H) : Typ cd (fun i => if i < cd.length ∧ H i ≠ -1 then some (H i).toNatClampNeg else none) := by
  obtain ⟨h0, hA, hC⟩ := h
  have n0 : ¬ H 0 = -1 := by rw [h0]; exact nI_m1 (by omega)
  refine ⟨?_, fun i h hi => ?_⟩
  · dsimp only
    rw [if_pos ⟨hc, n0⟩, h0]; rfl
  · dsimp only at hi
    by_cases hc2 : i < cd.length ∧ H i ≠ -1
    · rw [if_pos hc2] at hi
      obtain ⟨h3, n, k, q1, q2, q3, q4, q5⟩ := hC i hc2.1 hc2.2
      rw [q2, nI_clamp (by omega)] at hi
      cases hi
      refine ⟨n, k, q1, q4, q3, fun t h' hw => ?_⟩
      obtain ⟨r1, h2, r2, r3, r4⟩ := q5 t h' hw
      refine ⟨h2, r2, ?_⟩
      dsimp only
      rw [if_pos ⟨r1, by rw [r4]; exact nI_m1 (by omega)⟩, r4, nI_clamp (by omega)]
    · rw [if_neg hc2] at hi; cases hi
theorem noTyp_take {cd : Cod} {i n : Nat} {k : Int32} {h : Nat} (hr : Reach cd i h) (hi : cd[i]? = some (n, k)) (ht : ¬ tI n ≤ h) : noTyp cd := by
  rintro ⟨ty, hT⟩
  obtain ⟨h2, e, q⟩ := hT.reach hr
  obtain ⟨n', k', q1, q2, -⟩ := hT.2 i h2 q
  cases hi.symm.trans q1
  have : h = h2 := by exact_mod_cast e
  subst this
  exact ht q2
theorem noTyp_out {cd : Cod} {t : Nat} {h : Int} (hr : Reach cd t h) (hb : cd.length ≤ t ∨ 60 < h) : noTyp cd := by
  rintro ⟨ty, hT⟩
  obtain ⟨h2, e, q⟩ := hT.reach hr
  obtain ⟨n', k', q1, q2, q3, -⟩ := hT.2 t h2 q
  have := (List.getElem?_eq_some_iff.mp q1).1
  rcases hb with hb | hb
  · omega
  · have : (h2 : Int) ≤ 60 := by exact_mod_cast q3
    omega
theorem noTyp_two {cd : Cod} {t : Nat} {h h' : Int} (hr : Reach cd t h) (hr' : Reach cd t h') (hne : h ≠ h') : noTyp cd := by
  rintro ⟨ty, hT⟩
  obtain ⟨h2, e, q⟩ := hT.reach hr
  obtain ⟨h3, e', q'⟩ := hT.reach hr'
  cases q.symm.trans q'
  exact hne (e.trans e'.symm)
-- how many are not done yet
def cnt (f : Nat → Int32) : Nat → Nat
  | 0 => 0
  | n + 1 => cnt f n + if f n = 0 then 1 else 0
theorem cnt_le (f : Nat → Int32) : ∀ n, cnt f n ≤ n
  | 0 => Nat.le_refl _
  | n + 1 => by have := cnt_le f n; unfold cnt; split <;> omega
theorem cnt_up {f : Nat → Int32} {v : Int32} (hv : ¬ v = 0) : ∀ {n i : Nat}, i < n → f i = 0 → cnt (va_up f i v) n + 1 = cnt f n
  | 0, i, h, _ => absurd h (by omega)
  | n + 1, i, h, hf => by
    have same : ∀ m, m ≤ i → cnt (va_up f i v) m = cnt f m := by
      intro m
      induction m with
      | zero => intro _; rfl
      | succ m ih => intro hm; unfold cnt; rw [ih (by omega), va_up_ne _ _ (by omega)]
    by_cases e : i = n
    · subst e
      unfold cnt
      rw [same i (Nat.le_refl _), va_up_self, if_neg hv, if_pos hf]
    · have := cnt_up hv (n := n) (i := i) (by omega) hf
      unfold cnt
      rw [va_up_ne _ _ (fun z => e z.symm)]
      omega
