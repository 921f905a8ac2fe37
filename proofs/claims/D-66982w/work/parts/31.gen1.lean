/-! Generator: its state, pure; line, constant, load, keep -/
abbrev GS : Type := Nat × (Nat → Nat × Int32) × List (Nat × Int32) × List Int32 × Nat × Bool × Bool
abbrev GS.d (q : GS) : Nat := q.1
abbrev GS.kf (q : GS) : Nat → Nat × Int32 := q.2.1
abbrev GS.ls (q : GS) : List (Nat × Int32) := q.2.2.1
abbrev GS.gr (q : GS) : List Int32 := q.2.2.2.1
abbrev GS.mo (q : GS) : Nat := q.2.2.2.2.1
abbrev GS.re (q : GS) : Bool := q.2.2.2.2.2.1
abbrev GS.sa (q : GS) : Bool := q.2.2.2.2.2.2
def lin (x : Nat × Int32) : List Int32 := sbyt.getD x.1 [] ++ dec x.2 ++ [10]
def txt (ls : List (Nat × Int32)) : List Int32 := ls.flatMap lin
theorem txt_push (ls : List (Nat × Int32)) (i : Nat) (v : Int32) : txt (ls ++ [(i, v)]) = txt ls ++ (sbyt.getD i [] ++ dec v ++ [10]) := by simp [txt, lin]
def gline (i : Nat) (v : Int32) (q : GS) : GS := (q.d, q.kf, q.ls ++ [(i, v)], q.gr, q.mo, q.re, q.sa)
def gidx (v : Int32) : List Int32 → Nat
  | [] => 0
  | x :: r => if x = v then 0 else gidx v r + 1
def small (v : Int32) : Bool := decide (-16000000 < v ∧ v < 16000000)
def gset (k : Nat) (x : Nat × Int32) (q : GS) : GS := (q.d, va_up q.kf k x, q.ls, q.gr, q.mo, q.re, q.sa)
def gdep (d : Nat) (q : GS) : GS := (d, q.kf, q.ls, q.gr, q.mo, q.re, q.sa)
def gadd (v : Int32) (q : GS) : GS := (q.d, q.kf, q.ls, (if gidx v q.gr = q.gr.length then q.gr ++ [v] else q.gr), q.mo, q.re, q.sa)
def gcon (v : Int32) (q : GS) : GS := if small v = true then gline 0 v q else gline 1 (nI (100 + gidx v q.gr)) (gadd v q)
def gload (k : Nat) (q : GS) : GS := if (q.kf k).1 = 0 then gcon (q.kf k).2 q else if (q.kf k).1 = 1 then gline 2 (q.kf k).2 q else if (q.kf k).1 = 4 then gline 5 (nI k) q else q
def gkeep (k : Nat) (q : GS) : GS := if (q.kf k).1 = 4 then q else gset k (4, 0) (gline 6 (nI k) (gload k q))
def kOK (k : Nat) : Prop := k = 0 ∨ k = 1 ∨ k = 4 ∨ k = 5
def GnI (q : GS) (g A : Nat → Nat → Int32) (n : Nat → Nat) : Prop :=
  (g 3 3 = nI q.d ∧ q.d ≤ 60) ∧ (∀ k, k < q.d → A 17 k = nI (q.kf k).1 ∧ ((q.kf k).1 < 4 → A 18 k = (q.kf k).2) ∧ kOK (q.kf k).1) ∧ (g 4 1 = nI (txt q.ls).length ∧ TxI (A 25) (txt q.ls)) ∧ (g 3 8 = nI q.gr.length ∧ TxI (A 20) q.gr ∧ q.gr.length ≤ n 20 ∧ (n 20 = 16 ∨ n 20 = 32 ∨ n 20 = 64)) ∧ g 3 9 = nI 100 ∧ g 3 4 = nI q.mo ∧ g 3 6 = bI q.re ∧ g 3 15 = bI q.sa ∧ n 17 = 64 ∧ n 18 = 64 ∧ n 25 = 4096
def GnF (g A : Nat → Nat → Int32) (n : Nat → Nat) (g' A' : Nat → Nat → Int32) (n' : Nat → Nat) : Prop := (∀ k f, ¬ (k = 3 ∧ (f = 3 ∨ f = 4 ∨ f = 6 ∨ f = 8 ∨ f = 15)) → ¬ (k = 4 ∧ f = 1) → g' k f = g k f) ∧ (∀ i, i ≠ 17 → i ≠ 18 → i ≠ 20 → i ≠ 25 → A' i = A i) ∧ (∀ i, i ≠ 20 → n' i = n i)
section GNI
variable {q : GS} {g A g' A' g2 A2 : Nat → Nat → Int32} {n n' n2 : Nat → Nat}
theorem GnI.dep (h : GnI q g A n) : g 3 3 = nI q.d := h.1.1
theorem GnI.dle (h : GnI q g A n) : q.d ≤ 60 := h.1.2
theorem GnI.kd (h : GnI q g A n) {k : Nat} (hk : k < q.d) : A 17 k = nI (q.kf k).1 := (h.2.1 k hk).1
theorem GnI.vl (h : GnI q g A n) {k : Nat} (hk : k < q.d) (h4 : (q.kf k).1 < 4) : A 18 k = (q.kf k).2 := (h.2.1 k hk).2.1 h4
theorem GnI.ok (h : GnI q g A n) {k : Nat} (hk : k < q.d) : kOK (q.kf k).1 := (h.2.1 k hk).2.2
theorem GnI.gm (h : GnI q g A n) : g 3 8 = nI q.gr.length := h.2.2.2.1.1
theorem GnI.gle (h : GnI q g A n) : q.gr.length ≤ n 20 := h.2.2.2.1.2.2.1
theorem GnI.gn (h : GnI q g A n) : n 20 = 16 ∨ n 20 = 32 ∨ n 20 = 64 := h.2.2.2.1.2.2.2
theorem GnI.gt (h : GnI q g A n) : TxI (A 20) q.gr := h.2.2.2.1.2.1
theorem GnI.lab (h : GnI q g A n) : g 3 9 = nI 100 := h.2.2.2.2.1
theorem GnI.most (h : GnI q g A n) : g 3 4 = nI q.mo := h.2.2.2.2.2.1
theorem GnI.rea (h : GnI q g A n) : g 3 6 = bI q.re := h.2.2.2.2.2.2.1
theorem GnI.sam (h : GnI q g A n) : g 3 15 = bI q.sa := h.2.2.2.2.2.2.2.1
theorem GnI.n17 (h : GnI q g A n) : n 17 = 64 := h.2.2.2.2.2.2.2.2.1
theorem GnI.n18 (h : GnI q g A n) : n 18 = 64 := h.2.2.2.2.2.2.2.2.2.1
theorem GnI.n25 (h : GnI q g A n) : n 25 = 4096 := h.2.2.2.2.2.2.2.2.2.2
theorem GnF.rf (g A : Nat → Nat → Int32) (n : Nat → Nat) : GnF g A n g A n := ⟨fun _ _ _ _ => rfl, fun _ _ _ _ _ => rfl, fun _ _ => rfl⟩
theorem GnF.trans (h1 : GnF g A n g' A' n') (h2 : GnF g' A' n' g2 A2 n2) : GnF g A n g2 A2 n2 :=
  ⟨fun k f a b => (h2.1 k f a b).trans (h1.1 k f a b), fun i a b c d => (h2.2.1 i a b c d).trans (h1.2.1 i a b c d), fun i a => (h2.2.2 i a).trans (h1.2.2 i a)⟩
theorem GnF.pg {k f : Nat} {v : Int32} (hk : (k = 3 ∧ (f = 3 ∨ f = 4 ∨ f = 6 ∨ f = 8 ∨ f = 15)) ∨ (k = 4 ∧ f = 1)) (h : GnF g A n g' A' n') : GnF g A n (up2 g' k f v) A' n' := ⟨fun k' f' a b => by
  rw [up2_ne (fun z => by obtain ⟨rfl, rfl⟩ := z; rcases hk with hk | hk; exact a hk; exact b hk)]
  exact h.1 k' f' a b, h.2.1, h.2.2⟩
theorem GnF.pA {i : Nat} {v : Nat → Int32} (hk : i = 17 ∨ i = 18 ∨ i = 20 ∨ i = 25) (h : GnF g A n g' A' n') : GnF g A n g' (va_up A' i v) n' := ⟨h.1, fun j a b c d => by rw [va_up_ne _ _ (by omega)]; exact h.2.1 j a b c d, h.2.2⟩
theorem GnF.pn {v : Nat} (h : GnF g A n g' A' n') : GnF g A n g' A' (va_up n' 20 v) := ⟨h.1, h.2.1, fun j a => by rw [va_up_ne _ _ a]; exact h.2.2 j a⟩
theorem GnI.line {i : Nat} {v : Int32} {f : Nat → Int32} (h : GnI q g A n) (hf : TxI f (txt (gline i v q).ls)) : GnI (gline i v q) (up2 g 4 1 (nI (txt (gline i v q).ls).length)) (va_up A 25 f) n := by
  obtain ⟨⟨h1, h2⟩, h3, ⟨h4, h5⟩, h6, h7, h8, h9, h10, h11, h12, h13⟩ := h
  refine ⟨⟨(up2_ne (by decide)).trans h1, h2⟩, fun k hk => ?_, ⟨up2_self, by rw [va_up_self]; exact hf⟩, ⟨(up2_ne (by decide)).trans h6.1, by rw [va_up_ne _ _ (by decide)]; exact h6.2.1, h6.2.2⟩, (up2_ne (by decide)).trans h7, (up2_ne (by decide)).trans h8, (up2_ne (by decide)).trans h9, (up2_ne (by decide)).trans h10, h11, h12, h13⟩
  rw [va_up_ne _ _ (by decide), va_up_ne _ _ (by decide)]
  exact h3 k hk
theorem GnI.set {k : Nat} {x : Nat × Int32} (h : GnI q g A n) (hk : kOK x.1) (h4 : 4 ≤ x.1) : GnI (gset k x q) g (va_up A 17 (va_up (A 17) k (nI x.1))) n := by
  obtain ⟨⟨h1, h2⟩, h3, ⟨h4', h5⟩, h6, h7, h8, h9, h10, h11, h12, h13⟩ := h
  refine ⟨⟨h1, h2⟩, fun j hj => ?_, ⟨h4', by rw [va_up_ne _ _ (by decide)]; exact h5⟩, ⟨h6.1, by rw [va_up_ne _ _ (by decide)]; exact h6.2.1, h6.2.2⟩, h7, h8, h9, h10, h11, h12, h13⟩
  rw [va_up_self, va_up_ne _ _ (show (18 : Nat) ≠ 17 by decide)]
  show va_up (A 17) k (nI x.1) j = nI (va_up q.kf k x j).1 ∧ ((va_up q.kf k x j).1 < 4 → A 18 j = (va_up q.kf k x j).2) ∧ kOK (va_up q.kf k x j).1
  by_cases e : j = k
  · subst e
    rw [va_up_self, va_up_self]
    exact ⟨rfl, fun z => absurd z (by omega), hk⟩
  · rw [va_up_ne _ _ e, va_up_ne _ _ e]
    exact h3 j hj
theorem GnI.depth {d : Nat} (h : GnI q g A n) (hd : d ≤ q.d) : GnI (gdep d q) (up2 g 3 3 (nI d)) A n := by
  obtain ⟨⟨h1, h2⟩, h3, ⟨h4, h5⟩, h6, h7, h8, h9, h10, h11, h12, h13⟩ := h
  exact ⟨⟨up2_self, Nat.le_trans hd h2⟩, fun k hk => h3 k (Nat.lt_of_lt_of_le hk hd), ⟨(up2_ne (by decide)).trans h4, h5⟩, ⟨(up2_ne (by decide)).trans h6.1, h6.2⟩, (up2_ne (by decide)).trans h7, (up2_ne (by decide)).trans h8, (up2_ne (by decide)).trans h9, (up2_ne (by decide)).trans h10, h11, h12, h13⟩
end GNI
theorem nI_dbl (k : Nat) : 2 * nI k = nI (2 * k) := by
  rw [Nat.two_mul, ← nI_add]
  show ((1 : Int32) + 1) * nI k = _
  rw [Int32.add_mul, Int32.one_mul]
def Fit (q : GS) : Prop := (txt q.ls).length ≤ 4076 ∧ q.gr.length ≤ 64
def QLe (q q' : GS) : Prop := (∃ x, q'.ls = q.ls ++ x) ∧ q.gr.length ≤ q'.gr.length
theorem QLe.rf (q : GS) : QLe q q := ⟨⟨[], (List.append_nil _).symm⟩, Nat.le_refl _⟩
theorem QLe.trans {q q' q2 : GS} (h1 : QLe q q') (h2 : QLe q' q2) : QLe q q2 := by
  obtain ⟨⟨x, hx⟩, h⟩ := h1
  obtain ⟨⟨y, hy⟩, h'⟩ := h2
  exact ⟨⟨x ++ y, by rw [hy, hx, List.append_assoc]⟩, Nat.le_trans h h'⟩
theorem Fit.of {q q' : GS} (h : Fit q') (hl : QLe q q') : Fit q := by
  obtain ⟨⟨x, hx⟩, hg⟩ := hl
  refine ⟨?_, Nat.le_trans hg h.2⟩
  have := h.1
  rw [hx] at this
  unfold txt at this ⊢
  rw [List.flatMap_append, List.length_append] at this
  omega
theorem QLe.line (i : Nat) (v : Int32) (q : GS) : QLe q (gline i v q) := ⟨⟨_, rfl⟩, Nat.le_refl _⟩
theorem QLe.add (v : Int32) (q : GS) : QLe q (gadd v q) := by
  refine ⟨⟨[], (List.append_nil _).symm⟩, ?_⟩
  show q.gr.length ≤ (if gidx v q.gr = q.gr.length then q.gr ++ [v] else q.gr).length
  split <;> simp
theorem QLe.con (v : Int32) (q : GS) : QLe q (gcon v q) := by
  unfold gcon
  split
  · exact QLe.line _ _ _
  · exact (QLe.add v q).trans (QLe.line _ _ _)
theorem QLe.load (k : Nat) (q : GS) : QLe q (gload k q) := by
  unfold gload
  split
  · exact QLe.con _ _
  · split
    · exact QLe.line _ _ _
    · split
      · exact QLe.line _ _ _
      · exact QLe.rf _
theorem QLe.set (k : Nat) (x : Nat × Int32) (q : GS) : QLe q (gset k x q) := ⟨⟨[], (List.append_nil _).symm⟩, Nat.le_refl _⟩
theorem QLe.dep (d : Nat) (q : GS) : QLe q (gdep d q) := ⟨⟨[], (List.append_nil _).symm⟩, Nat.le_refl _⟩
theorem QLe.keep (k : Nat) (q : GS) : QLe q (gkeep k q) := by
  unfold gkeep
  split
  · exact QLe.rf _
  · exact ((QLe.load k q).trans (QLe.line _ _ _)).trans (QLe.set _ _ _)
theorem gcon_d (v : Int32) (q : GS) : (gcon v q).d = q.d := by unfold gcon; split <;> rfl
theorem gcon_kf (v : Int32) (q : GS) : (gcon v q).kf = q.kf := by unfold gcon; split <;> rfl
theorem gload_d (k : Nat) (q : GS) : (gload k q).d = q.d := by
  unfold gload
  split
  · exact gcon_d _ _
  · split
    · rfl
    · split <;> rfl
theorem gload_kf (k : Nat) (q : GS) : (gload k q).kf = q.kf := by
  unfold gload
  split
  · exact gcon_kf _ _
  · split
    · rfl
    · split <;> rfl
theorem gkeep_d (k : Nat) (q : GS) : (gkeep k q).d = q.d := by
  unfold gkeep
  split
  · rfl
  · exact gload_d k q
theorem gidx_le (v : Int32) : ∀ r : List Int32, gidx v r ≤ r.length
  | [] => Nat.le_refl _
  | x :: r => by
    rw [gidx]
    split
    · omega
    · have := gidx_le v r
      simp
      exact this
theorem gidx_at (v : Int32) : ∀ (r : List Int32) (k : Nat), (∀ j, j < k → r[j]? ≠ some v) → (r[k]? = some v ∨ k = r.length) → gidx v r = k
  | [], k, h, hk => by
    rcases hk with hk | hk
    · simp at hk
    · rw [hk]; rfl
  | x :: r, 0, h, hk => by
    rcases hk with hk | hk
    · simp at hk
      rw [gidx, if_pos hk]
    · simp at hk
  | x :: r, k + 1, h, hk => by
    have h0 := h 0 (by omega)
    simp at h0
    rw [gidx, if_neg h0, gidx_at v r k (fun j hj => by have := h (j + 1) (by omega); simpa using this) (by simpa using hk)]
theorem TxI.cpy {f f' : Nat → Int32} {t : List Int32} (h : TxI f t) : TxI (va_cpy f f' 0 0 t.length) t := by
  intro i v hi
  have hl := (List.getElem?_eq_some_iff.mp hi).1
  unfold va_cpy
  rw [if_pos (by omega), show 0 + (i - 0) = i by omega]
  exact h i v hi
/-- a constant gets its place among the great ones -/
theorem GnI.add {q : GS} {g A : Nat → Nat → Int32} {n : Nat → Nat} {v : Int32} {f : Nat → Int32} {N : Nat} (h : GnI q g A n) (hf : TxI f q.gr) (hN : N = 16 ∨ N = 32 ∨ N = 64) (hlt : gidx v q.gr < N) (hle : q.gr.length ≤ N) (hfd : gidx v q.gr < q.gr.length → q.gr[gidx v q.gr]? = some v) : GnI (gadd v q) (up2 g 3 8 (nI (gadd v q).gr.length)) (va_up A 20 (va_up f (gidx v q.gr) v)) (va_up n 20 N) := by
  obtain ⟨⟨h1, h2⟩, h3, ⟨h4, h5⟩, h6, h7, h8, h9, h10, h11, h12, h13⟩ := h
  refine ⟨⟨(up2_ne (by decide)).trans h1, h2⟩, fun k hk => ?_, ⟨(up2_ne (by decide)).trans h4, by rw [va_up_ne _ _ (by decide)]; exact h5⟩, ⟨up2_self, ?_, ?_, by rw [va_up_self]; exact hN⟩, (up2_ne (by decide)).trans h7, (up2_ne (by decide)).trans h8, (up2_ne (by decide)).trans h9, (up2_ne (by decide)).trans h10, by rw [va_up_ne _ _ (by decide)]; exact h11, by rw [va_up_ne _ _ (by decide)]; exact h12, by rw [va_up_ne _ _ (by decide)]; exact h13⟩
  · rw [va_up_ne _ _ (by decide), va_up_ne _ _ (by decide)]
    exact h3 k hk
  · rw [va_up_self]
    show TxI _ (if gidx v q.gr = q.gr.length then q.gr ++ [v] else q.gr)
    by_cases e : gidx v q.gr = q.gr.length
    · rw [if_pos e, e]
      exact hf.push
    · rw [if_neg e]
      have hl := gidx_le v q.gr
      intro i w hi
      by_cases e2 : i = gidx v q.gr
      · subst e2
        rw [va_up_self]
        exact Option.some.inj ((hfd (by omega)).symm.trans hi)
      · rw [va_up_ne _ _ e2]
        exact hf i w hi
  · rw [va_up_self]
    show (if gidx v q.gr = q.gr.length then q.gr ++ [v] else q.gr).length ≤ N
    split
    · next e => rw [List.length_append]; simp; omega
    · exact hle

theorem c_GN_lineG (l : Launch) {E : Bs} (hE : Hb E) {ρ : Nat → Nat} {g A : Nat → Nat → Int32} {n : Nat → Nat} {tx : Value} {q : GS} (hI : GnI q g A n) {i : Nat} {v : Int32} (hi : i < 17) (hB : Fit (gline i v q)) : CW l E DC AC y_GN_line b_GN_line 3 none ({ frames := 5, cells := 0, slots := 0, locals := 107 } : Room) [.ref (E.o 3), .ref (E.st (10 + i)), .int v] ρ g A n tx (fun r ρ' g' A' n' tx' => r = none ∧ GnI (gline i v q) g' A' n' ∧ GnF g A n g' A' n' ∧ tx' = tx) := by
  have hb : (txt (gline i v q).ls).length ≤ 4076 := hB.1
  have hp : txt (gline i v q).ls = txt q.ls ++ (sbyt.getD i [] ++ dec v ++ [10]) := txt_push q.ls i v
  refine CW.mono (c_GN_line l hE (t := txt q.ls) (i := i) (v := v) hi (by rw [hp, List.length_append] at hb; omega) hI.2.2.1.1 hI.n25 hI.2.2.1.2) fun r ρ' g' A' n' tx' h => ?_
  obtain ⟨h1, -, e2, ⟨f', e3, hf⟩, e4, e5⟩ := h
  rw [← hp] at e2 hf
  subst e2; subst e3; subst e4
  exact ⟨h1, hI.line hf, ((GnF.rf g A _).pg (by decide)).pA (by decide), e5⟩
set_option maxHeartbeats 4000000 in
theorem c_GN_constant (l : Launch) {E : Bs} (hE : Hb E) {ρ : Nat → Nat} {g A : Nat → Nat → Int32} {n : Nat → Nat} {tx : Value} {q : GS} (hI : GnI q g A n) {v : Int32} (hB : Fit (gcon v q)) : CW l E DC AC y_GN_constant b_GN_constant 4 none ({ frames := 6, cells := 1, slots := 64, locals := 129 } : Room) [.ref (E.o 3), .int v] ρ g A n tx (fun r ρ' g' A' n' tx' => r = none ∧ GnI (gcon v q) g' A' n' ∧ GnF g A n g' A' n' ∧ tx' = tx) := by
  refine CW.start [some (.ref (E.o 3)), some (.int v), none, none] hE (by decide) (Nat.le_of_ble_eq_true rfl) rfl ?_
  intro p e s m args below meth c G
  by_cases hsm : small v = true
  · skip
    have hs := of_decide_eq_true hsm
    have hgc : gcon v q = gline 0 v q := by unfold gcon; rw [if_pos hsm]
    rw [hgc] at hB ⊢
    refine v_iload_n G (decAt dd_GN_constant 0 rfl) rfl ?_
    refine v_ldc G (decAt dd_GN_constant 1 rfl) tm_398 ?_
    refine v_icmp_le G 20 (decAt dd_GN_constant 2 rfl) (by decide) (fun c3 => ?_) (fun c3 => ?_)
    · skip
      exact absurd hs.1 (Int32.not_lt.mpr c3)
    · skip
      refine v_iload_n G (decAt dd_GN_constant 3 rfl) rfl ?_
      refine v_ldc G (decAt dd_GN_constant 4 rfl) tm_399 ?_
      refine v_icmp_ge G 20 (decAt dd_GN_constant 5 rfl) (by decide) (fun c9 => ?_) (fun c9 => ?_)
      · skip
        exact absurd hs.2 (Int32.not_lt.mpr c9)
      · skip
        refine v_aload_n G (decAt dd_GN_constant 6 rfl) rfl ?_
        refine q_ldcs G (i := 0) (decAt dd_GN_constant 7 rfl) rfl rfl rfl ?_
        refine v_iload_n G (decAt dd_GN_constant 8 rfl) rfl ?_
        refine v_callVv G (As := [.ref (E.st (10 + 0)), .int v]) (P := fun ρ' g' A' n' tx' => GnI (gline 0 v q) g' A' n' ∧ GnF g A n g' A' n' ∧ tx' = tx) (rm := ({ frames := 5, cells := 0, slots := 0, locals := 107 } : Room)) (decAt dd_GN_constant 9 rfl) k_GN_84 (c_GN_lineG l hE hI (i := 0) (v := v) (by decide) hB) (by decide) rfl rfl rfl (Nat.le_of_ble_eq_true rfl) (by decide) (by decide) ?_
        rintro ρ1 g1 A1 n1 tx1 ⟨hI1, hX1, etx⟩
        replace etx := etx.symm; subst etx
        have hF1 := GnF.trans (GnF.rf g A n) hX1
        refine v_room 1 64 (by decide) (by decide) ?_
        exact v_vret G (decAt dd_GN_constant 10 rfl) rfl ⟨rfl, hI1, hF1, rfl⟩
  · skip
    have hgc : gcon v q = gline 1 (nI (100 + gidx v q.gr)) (gadd v q) := by unfold gcon; rw [if_neg hsm]
    rw [hgc] at hB ⊢
    have hBa : Fit (gadd v q) := hB.of (QLe.line _ _ _)
    have hlg := hI.gle
    have hgn := hI.gn
    have hil := gidx_le v q.gr
    have J80 : ∀ (ρ1 : Nat → Nat) (f : Nat → Int32) (N : Nat) (x3 : Option Value), TxI f q.gr → (N = 16 ∨ N = 32 ∨ N = 64) → gidx v q.gr < N → q.gr.length ≤ N → (gidx v q.gr < q.gr.length → q.gr[gidx v q.gr]? = some v) → V p l e ({ frames := 6, cells := 1, slots := 64, locals := 129 } : Room) s m args below meth c 4 (Sy E DC AC s.heap ρ1 g (va_up A 20 f) (va_up n 20 N) tx) 1 64 (MQ below (QW E DC AC (fun r ρ' g' A' n' tx' => r = none ∧ GnI (gline 1 (nI (100 + gidx v q.gr)) (gadd v q)) g' A' n' ∧ GnF g A n g' A' n' ∧ tx' = tx)) args s 1 64 E.F) 80 [some (.ref (E.o 3)), some (.int v), some (.int (nI (gidx v q.gr))), x3] [] := by
      intro ρ1 f N x3 hf hN hlt hle hfd
      have hGA := hI.add (v := v) hf hN hlt hle hfd
      refine v_iload_n G (decAt dd_GN_constant 46 rfl) rfl ?_
      refine v_aload_n G (decAt dd_GN_constant 47 rfl) rfl ?_
      refine v_geti G (decAt dd_GN_constant 48 rfl) f_GN_88 ?_
      refine v_ri (y := (nI (q).gr.length)) hI.gm ?_
      refine v_icmp_ne G 98 (decAt dd_GN_constant 49 rfl) (by decide) (fun c85 => ?_) (fun c85 => ?_)
      · skip
        refine v_aload_n G (decAt dd_GN_constant 56 rfl) rfl ?_
        refine v_geta G (decAt dd_GN_constant 57 rfl) f_GN_28 ?_
        refine v_iload_n G (decAt dd_GN_constant 58 rfl) rfl ?_
        refine v_iload_n G (decAt dd_GN_constant 59 rfl) rfl ?_
        refine v_iast G 20 (gidx v q.gr) (decAt dd_GN_constant 60 rfl) (by decide) rfl rfl (by rw [va_up_self]; exact hlt) ?_
        have eg : ¬ gidx v q.gr = q.gr.length := fun z => c85 (by rw [z])
        have el : (gadd v q).gr.length = q.gr.length := by show (if gidx v q.gr = q.gr.length then q.gr ++ [v] else q.gr).length = _; rw [if_neg eg]
        rw [el, up2_id hI.gm] at hGA
        rw [show va_up A 20 (va_up f (gidx v q.gr) v) = va_up (va_up A 20 f) 20 (va_up ((va_up A 20 f) 20) (gidx v q.gr) v) from by rw [va_up_self, va_up_up]] at hGA
        refine v_aload_n G (decAt dd_GN_constant 61 rfl) rfl ?_
        refine q_ldcs G (i := 1) (decAt dd_GN_constant 62 rfl) rfl rfl rfl ?_
        refine v_aload_n G (decAt dd_GN_constant 63 rfl) rfl ?_
        refine v_geti G (decAt dd_GN_constant 64 rfl) f_GN_93 ?_
        refine v_ri (y := (nI 100)) (by first | exact (up2_ne (by decide)).trans hI.lab | exact hI.lab) ?_
        refine v_iload_n G (decAt dd_GN_constant 65 rfl) rfl ?_
        refine v_iadd G (decAt dd_GN_constant 66 rfl) ?_
        refine v_ri (y := (nI (100 + gidx v q.gr))) (nI_add 100 _) ?_
        refine v_callVv G (As := [.ref (E.st (10 + 1)), .int (nI (100 + gidx v q.gr))]) (P := fun ρ' g' A' n' tx' => GnI (gline 1 (nI (100 + gidx v q.gr)) (gadd v q)) g' A' n' ∧ GnF g (va_up (va_up A 20 f) 20 (va_up ((va_up A 20 f) 20) (gidx v q.gr) v)) (va_up n 20 N) g' A' n' ∧ tx' = tx) (rm := ({ frames := 5, cells := 0, slots := 0, locals := 107 } : Room)) (decAt dd_GN_constant 67 rfl) k_GN_84 (c_GN_lineG l hE hGA (i := 1) (v := (nI (100 + gidx v q.gr))) (by decide) hB) (by decide) rfl rfl rfl (Nat.le_of_ble_eq_true rfl) (by decide) (by decide) ?_
        rintro ρ2 g2 A2 n2 tx2 ⟨hI2, hX2, etx⟩
        replace etx := etx.symm; subst etx
        have hF2 := GnF.trans (((GnF.rf g A n).pA (by decide)).pA (by decide)).pn hX2
        refine v_room 1 64 (by decide) (by decide) ?_
        exact v_vret G (decAt dd_GN_constant 68 rfl) rfl ⟨rfl, hI2, hF2, rfl⟩
      · skip
        refine v_aload_n G (decAt dd_GN_constant 50 rfl) rfl ?_
        refine v_dup G (decAt dd_GN_constant 51 rfl) rfl ?_
        refine v_geti G (decAt dd_GN_constant 52 rfl) f_GN_88 ?_
        refine v_ri (y := (nI (q).gr.length)) hI.gm ?_
        refine v_iconst G 1 (decAt dd_GN_constant 53 rfl) (by decide) ?_
        refine v_iadd G (decAt dd_GN_constant 54 rfl) ?_
        refine v_ri (y := (nI (q.gr.length + 1))) (nI_1 _) ?_
        refine v_puti G (decAt dd_GN_constant 55 rfl) f_GN_88 rfl rfl rfl ?_
        refine v_aload_n G (decAt dd_GN_constant 56 rfl) rfl ?_
        refine v_geta G (decAt dd_GN_constant 57 rfl) f_GN_28 ?_
        refine v_iload_n G (decAt dd_GN_constant 58 rfl) rfl ?_
        refine v_iload_n G (decAt dd_GN_constant 59 rfl) rfl ?_
        refine v_iast G 20 (gidx v q.gr) (decAt dd_GN_constant 60 rfl) (by decide) rfl rfl (by rw [va_up_self]; exact hlt) ?_
        have eg : gidx v q.gr = q.gr.length := by first | exact (nI_eq (by omega) (by omega)).mp c85 | exact (nI_eq (by omega) (by omega)).mp (Classical.not_not.mp c85)
        have el : (gadd v q).gr.length = q.gr.length + 1 := by show (if gidx v q.gr = q.gr.length then q.gr ++ [v] else q.gr).length = _; rw [if_pos eg]; simp
        rw [el] at hGA
        rw [show va_up A 20 (va_up f (gidx v q.gr) v) = va_up (va_up A 20 f) 20 (va_up ((va_up A 20 f) 20) (gidx v q.gr) v) from by rw [va_up_self, va_up_up]] at hGA
        refine v_aload_n G (decAt dd_GN_constant 61 rfl) rfl ?_
        refine q_ldcs G (i := 1) (decAt dd_GN_constant 62 rfl) rfl rfl rfl ?_
        refine v_aload_n G (decAt dd_GN_constant 63 rfl) rfl ?_
        refine v_geti G (decAt dd_GN_constant 64 rfl) f_GN_93 ?_
        refine v_ri (y := (nI 100)) (by first | exact (up2_ne (by decide)).trans hI.lab | exact hI.lab) ?_
        refine v_iload_n G (decAt dd_GN_constant 65 rfl) rfl ?_
        refine v_iadd G (decAt dd_GN_constant 66 rfl) ?_
        refine v_ri (y := (nI (100 + gidx v q.gr))) (nI_add 100 _) ?_
        refine v_callVv G (As := [.ref (E.st (10 + 1)), .int (nI (100 + gidx v q.gr))]) (P := fun ρ' g' A' n' tx' => GnI (gline 1 (nI (100 + gidx v q.gr)) (gadd v q)) g' A' n' ∧ GnF (up2 g 3 8 (nI (q.gr.length + 1))) (va_up (va_up A 20 f) 20 (va_up ((va_up A 20 f) 20) (gidx v q.gr) v)) (va_up n 20 N) g' A' n' ∧ tx' = tx) (rm := ({ frames := 5, cells := 0, slots := 0, locals := 107 } : Room)) (decAt dd_GN_constant 67 rfl) k_GN_84 (c_GN_lineG l hE hGA (i := 1) (v := (nI (100 + gidx v q.gr))) (by decide) hB) (by decide) rfl rfl rfl (Nat.le_of_ble_eq_true rfl) (by decide) (by decide) ?_
        rintro ρ3 g3 A3 n3 tx3 ⟨hI3, hX3, etx⟩
        replace etx := etx.symm; subst etx
        have hF3 := GnF.trans ((((GnF.rf g A n).pg (k := 3) (f := 8) (by decide)).pA (by decide)).pA (by decide)).pn hX3
        refine v_room 1 64 (by decide) (by decide) ?_
        exact v_vret G (decAt dd_GN_constant 68 rfl) rfl ⟨rfl, hI3, hF3, rfl⟩
    have J46 : (gidx v q.gr < q.gr.length → q.gr[gidx v q.gr]? = some v) → V p l e ({ frames := 6, cells := 1, slots := 64, locals := 129 } : Room) s m args below meth c 4 (Sy E DC AC s.heap ρ g A n tx) 0 0 (MQ below (QW E DC AC (fun r ρ' g' A' n' tx' => r = none ∧ GnI (gline 1 (nI (100 + gidx v q.gr)) (gadd v q)) g' A' n' ∧ GnF g A n g' A' n' ∧ tx' = tx)) args s 1 64 E.F) 46 [some (.ref (E.o 3)), some (.int v), some (.int (nI (gidx v q.gr))), none] [] := by
      intro hfd
      refine v_iload_n G (decAt dd_GN_constant 25 rfl) rfl ?_
      refine v_aload_n G (decAt dd_GN_constant 26 rfl) rfl ?_
      refine v_geta G (decAt dd_GN_constant 27 rfl) f_GN_28 ?_
      refine v_alen G 20 (decAt dd_GN_constant 28 rfl) (by decide) ?_
      refine v_icmp_ne G 80 (decAt dd_GN_constant 29 rfl) (by decide) (fun c52 => ?_) (fun c52 => ?_)
      · skip
        refine v_room 1 64 (by decide) (by decide) ?_
        refine v_st rfl rfl (va_up_id A 20).symm (va_up_id n 20).symm rfl ?_
        have hne : gidx v q.gr ≠ n 20 := fun z => c52 (by rw [z])
        exact J80 ρ (A 20) (n 20) _ hI.gt hgn (by omega) hlg hfd
      · skip
        have e1 : gidx v q.gr = n 20 := by first | exact (nI_eq (by omega) (by omega)).mp c52 | exact (nI_eq (by omega) (by omega)).mp (Classical.not_not.mp c52)
        have e2 : gidx v q.gr = q.gr.length := by omega
        have h63 : q.gr.length + 1 ≤ 64 := by have := hBa.2; rw [show (gadd v q).gr = (if gidx v q.gr = q.gr.length then q.gr ++ [v] else q.gr) from rfl, if_pos e2] at this; simpa using this
        refine v_aload_n G (decAt dd_GN_constant 30 rfl) rfl ?_
        refine v_geta G (decAt dd_GN_constant 31 rfl) f_GN_28 ?_
        refine v_astore_3 G (decAt dd_GN_constant 32 rfl) (by decide) rfl ?_
        refine v_aload_n G (decAt dd_GN_constant 33 rfl) rfl ?_
        refine v_iconst G 2 (decAt dd_GN_constant 34 rfl) (by decide) ?_
        refine v_iload_n G (decAt dd_GN_constant 35 rfl) rfl ?_
        refine v_imul G (decAt dd_GN_constant 36 rfl) ?_
        refine v_ri (y := (nI (2 * gidx v q.gr))) (nI_dbl _) ?_
        refine v_newa G 40 (2 * gidx v q.gr) (decAt dd_GN_constant 37 rfl) tm_51 rfl rfl (by decide) kd40 rfl (by omega) (by show 2 * gidx v q.gr * 4 ≤ _; omega) (by decide) (by show 0 + 2 * gidx v q.gr ≤ 64; omega) fun w1 => ?_
        refine v_swap G 40 (decAt dd_GN_constant 38 rfl) f_GN_28 rfl rfl rfl (Or.inl (by decide)) (Or.inr rfl) rfl (by decide +kernel) ?_
        refine v_aload_n G (decAt dd_GN_constant 39 rfl) rfl ?_
        refine v_iconst G 0 (decAt dd_GN_constant 40 rfl) (by decide) ?_
        refine v_aload_n G (decAt dd_GN_constant 41 rfl) rfl ?_
        refine v_geta G (decAt dd_GN_constant 42 rfl) f_GN_28 ?_
        refine v_iconst G 0 (decAt dd_GN_constant 43 rfl) (by decide) ?_
        refine v_iload_n G (decAt dd_GN_constant 44 rfl) rfl ?_
        refine v_S (S' := [.int (nI (gidx v q.gr)), .int 0, .ref (swp (va_up ρ 40 w1) 20 40 20), .int 0, .ref (swp (va_up ρ 40 w1) 20 40 40)]) (by rw [show swp (va_up ρ 40 w1) 20 40 40 = ρ 20 from rfl]) ?_
        refine v_copy G 40 20 (gidx v q.gr) (decAt dd_GN_constant 45 rfl) tm_470 (Or.inr rfl) (Or.inl (by decide)) rfl rfl rfl (by show gidx v q.gr ≤ n 20; omega) (by show gidx v q.gr ≤ 2 * gidx v q.gr; omega) (by decide) (by decide) ?_
        refine v_drop (DA' := AC) (fun i hi => Or.inl hi) ?_
        refine v_tmp 40 (ρ' := va_up ρ 20 w1) (A' := va_up A 20 (va_cpy (A 20) (fun _ => 0) 0 0 q.gr.length)) (n' := va_up n 20 (2 * gidx v q.gr)) (by decide) kd40 ?_ ?_ ?_ ?_
        · intro x hx
          by_cases ex : x = 20
          · subst ex; rfl
          · rw [va_up_ne _ _ ex]; simp [swp, ex, hx]; rw [va_up_ne _ _ hx]
        · intro x hx
          by_cases ex : x = 20
          · subst ex
            rw [va_up_self, va_up_self, ← e2]
            rfl
          · rw [va_up_ne _ _ ex, va_up_ne _ _ ex]; simp [swp, ex, hx]; rw [va_up_ne _ _ hx]
        · intro x hx
          by_cases ex : x = 20
          · subst ex; rfl
          · rw [va_up_ne _ _ ex]; simp [swp, ex, hx]; rw [va_up_ne _ _ hx]
        refine v_room 1 64 (by decide) (by show 0 + 2 * gidx v q.gr ≤ 64; omega) ?_
        exact J80 _ _ _ _ hI.gt.cpy (by omega) (by omega) (by omega) hfd
    have J22 : ∀ (d k : Nat), k + d = q.gr.length → (∀ j, j < k → q.gr[j]? ≠ some v) → V p l e ({ frames := 6, cells := 1, slots := 64, locals := 129 } : Room) s m args below meth c 4 (Sy E DC AC s.heap ρ g A n tx) 0 0 (MQ below (QW E DC AC (fun r ρ' g' A' n' tx' => r = none ∧ GnI (gline 1 (nI (100 + gidx v q.gr)) (gadd v q)) g' A' n' ∧ GnF g A n g' A' n' ∧ tx' = tx)) args s 1 64 E.F) 22 [some (.ref (E.o 3)), some (.int v), some (.int (nI k)), none] [] := by
      intro d
      induction d with
      | zero =>
        intro k hk hne
        refine v_iload_n G (decAt dd_GN_constant 13 rfl) rfl ?_
        refine v_aload_n G (decAt dd_GN_constant 14 rfl) rfl ?_
        refine v_geti G (decAt dd_GN_constant 15 rfl) f_GN_88 ?_
        refine v_ri (y := (nI (q).gr.length)) hI.gm ?_
        refine v_icmp_ge G 46 (decAt dd_GN_constant 16 rfl) (by decide) (fun c27 => ?_) (fun c27 => ?_)
        · skip
          have e := gidx_at v q.gr k hne (Or.inr (by omega))
          rw [← e]
          exact J46 (fun z => absurd z (by omega))
        · skip
          exact absurd (nI_le (by omega) (by omega)) c27
      | succ d ih =>
        intro k hk hne
        obtain ⟨x, hx⟩ : ∃ x, q.gr[k]? = some x := ⟨q.gr[k], List.getElem?_eq_getElem (by omega)⟩
        have hAx := hI.gt k x hx
        refine v_iload_n G (decAt dd_GN_constant 13 rfl) rfl ?_
        refine v_aload_n G (decAt dd_GN_constant 14 rfl) rfl ?_
        refine v_geti G (decAt dd_GN_constant 15 rfl) f_GN_88 ?_
        refine v_ri (y := (nI (q).gr.length)) hI.gm ?_
        refine v_icmp_ge G 46 (decAt dd_GN_constant 16 rfl) (by decide) (fun c27 => ?_) (fun c27 => ?_)
        · skip
          exact absurd c27 (nI_ge (by omega) (by omega))
        · skip
          refine v_aload_n G (decAt dd_GN_constant 17 rfl) rfl ?_
          refine v_geta G (decAt dd_GN_constant 18 rfl) f_GN_28 ?_
          refine v_iload_n G (decAt dd_GN_constant 19 rfl) rfl ?_
          refine v_iald G 20 k (decAt dd_GN_constant 20 rfl) (by decide) rfl rfl (by omega) ?_
          refine v_ri (y := x) hAx ?_
          refine v_iload_n G (decAt dd_GN_constant 21 rfl) rfl ?_
          refine v_icmp_eq G 46 (decAt dd_GN_constant 22 rfl) (by decide) (fun c37 => ?_) (fun c37 => ?_)
          · skip
            have e := gidx_at v q.gr k hne (Or.inl (by rw [hx, c37]))
            rw [← e]
            exact J46 (fun _ => by rw [e, hx, c37])
          · skip
            refine v_iinc_2 G (nI (k + 1)) (decAt dd_GN_constant 23 rfl) ((nI_1 _)) (by decide) rfl ?_
            refine v_goto G 22 (decAt dd_GN_constant 24 rfl) (by decide) ?_
            exact ih (k + 1) (by omega) (fun j hj => by
              by_cases e : j = k
              · subst e; rw [hx]; exact fun z => c37 (Option.some.inj z)
              · exact hne j (by omega))
    refine v_iload_n G (decAt dd_GN_constant 0 rfl) rfl ?_
    refine v_ldc G (decAt dd_GN_constant 1 rfl) tm_398 ?_
    refine v_icmp_le G 20 (decAt dd_GN_constant 2 rfl) (by decide) (fun c3 => ?_) (fun c3 => ?_)
    · skip
      refine v_iconst G 0 (decAt dd_GN_constant 11 rfl) (by decide) ?_
      refine v_istore_2 G (decAt dd_GN_constant 12 rfl) (by decide) rfl ?_
      exact J22 q.gr.length 0 (by omega) (fun j hj => absurd hj (by omega))
    · skip
      refine v_iload_n G (decAt dd_GN_constant 3 rfl) rfl ?_
      refine v_ldc G (decAt dd_GN_constant 4 rfl) tm_399 ?_
      refine v_icmp_ge G 20 (decAt dd_GN_constant 5 rfl) (by decide) (fun c9 => ?_) (fun c9 => ?_)
      · skip
        refine v_iconst G 0 (decAt dd_GN_constant 11 rfl) (by decide) ?_
        refine v_istore_2 G (decAt dd_GN_constant 12 rfl) (by decide) rfl ?_
        exact J22 q.gr.length 0 (by omega) (fun j hj => absurd hj (by omega))
      · skip
        exact absurd (decide_eq_true ⟨Int32.not_le.mp c3, Int32.not_le.mp c9⟩) hsm
set_option maxHeartbeats 4000000 in
theorem c_GN_load (l : Launch) {E : Bs} (hE : Hb E) {ρ : Nat → Nat} {g A : Nat → Nat → Int32} {n : Nat → Nat} {tx : Value} {q : GS} (hI : GnI q g A n) {k : Nat} (hk : k < q.d) (hB : Fit (gload k q)) : CW l E DC AC y_GN_load b_GN_load 2 none ({ frames := 7, cells := 1, slots := 64, locals := 152 } : Room) [.ref (E.o 3), .int (nI k)] ρ g A n tx (fun r ρ' g' A' n' tx' => r = none ∧ GnI (gload k q) g' A' n' ∧ GnF g A n g' A' n' ∧ tx' = tx) := by
  refine CW.start [some (.ref (E.o 3)), some (.int (nI k))] hE (by decide) (Nat.le_of_ble_eq_true rfl) rfl ?_
  intro p e s m args below meth c G
  have hd := hI.dle
  have h17 := hI.n17
  have h18 := hI.n18
  have hkd := hI.kd hk
  have hvl := hI.vl hk
  obtain ⟨K, hK⟩ : ∃ K, (q.kf k).1 = K := ⟨_, rfl⟩
  have hok := hI.ok hk
  rw [hK] at hok hkd hvl
  rcases hok with e | e | e | e
  · skip
    subst e
    have hgl : gload k q = gcon (q.kf k).2 q := if_pos hK
    rw [hgl] at hB ⊢
    refine v_aload_n G (decAt dd_GN_load 0 rfl) rfl ?_
    refine v_geta G (decAt dd_GN_load 1 rfl) f_GN_18 ?_
    refine v_iload_n G (decAt dd_GN_load 2 rfl) rfl ?_
    refine v_iald G 17 k (decAt dd_GN_load 3 rfl) (by decide) rfl rfl (by omega) ?_
    refine v_ri (y := nI 0) hkd ?_
    refine v_tswIn G 40 (decAt dd_GN_load 4 rfl) (by decide) (by decide) rfl (by decide) ?_
    refine v_aload_n G (decAt dd_GN_load 5 rfl) rfl ?_
    refine v_aload_n G (decAt dd_GN_load 6 rfl) rfl ?_
    refine v_geta G (decAt dd_GN_load 7 rfl) f_GN_22 ?_
    refine v_iload_n G (decAt dd_GN_load 8 rfl) rfl ?_
    refine v_iald G 18 k (decAt dd_GN_load 9 rfl) (by decide) rfl rfl (by omega) ?_
    refine v_ri (y := (q.kf k).2) (hvl (by omega)) ?_
    refine v_callVv G (As := [.int (q.kf k).2]) (P := fun ρ' g' A' n' tx' => GnI (gcon (q.kf k).2 q) g' A' n' ∧ GnF g A n g' A' n' ∧ tx' = tx) (rm := ({ frames := 6, cells := 1, slots := 64, locals := 129 } : Room)) (decAt dd_GN_load 10 rfl) k_GN_96 (c_GN_constant l hE hI (v := (q.kf k).2) hB) (by decide) rfl rfl rfl (Nat.le_of_ble_eq_true rfl) (by decide) (by decide) ?_
    rintro ρ4 g4 A4 n4 tx4 ⟨hI4, hX4, etx⟩
    replace etx := etx.symm; subst etx
    have hF4 := GnF.trans (GnF.rf g A n) hX4
    refine v_goto G 108 (decAt dd_GN_load 11 rfl) (by decide) ?_
    refine v_room 1 64 (by decide) (by decide) ?_
    exact v_vret G (decAt dd_GN_load 41 rfl) rfl ⟨rfl, hI4, hF4, rfl⟩
  · skip
    subst e
    have hgl : gload k q = gline 2 (q.kf k).2 q := (if_neg (by omega)).trans (if_pos hK)
    rw [hgl] at hB ⊢
    refine v_aload_n G (decAt dd_GN_load 0 rfl) rfl ?_
    refine v_geta G (decAt dd_GN_load 1 rfl) f_GN_18 ?_
    refine v_iload_n G (decAt dd_GN_load 2 rfl) rfl ?_
    refine v_iald G 17 k (decAt dd_GN_load 3 rfl) (by decide) rfl rfl (by omega) ?_
    refine v_ri (y := nI 1) hkd ?_
    refine v_tswIn G 53 (decAt dd_GN_load 4 rfl) (by decide) (by decide) rfl (by decide) ?_
    refine v_aload_n G (decAt dd_GN_load 12 rfl) rfl ?_
    refine q_ldcs G (i := 2) (decAt dd_GN_load 13 rfl) rfl rfl rfl ?_
    refine v_aload_n G (decAt dd_GN_load 14 rfl) rfl ?_
    refine v_geta G (decAt dd_GN_load 15 rfl) f_GN_22 ?_
    refine v_iload_n G (decAt dd_GN_load 16 rfl) rfl ?_
    refine v_iald G 18 k (decAt dd_GN_load 17 rfl) (by decide) rfl rfl (by omega) ?_
    refine v_ri (y := (q.kf k).2) (hvl (by omega)) ?_
    refine v_callVv G (As := [.ref (E.st (10 + 2)), .int (q.kf k).2]) (P := fun ρ' g' A' n' tx' => GnI (gline 2 (q.kf k).2 q) g' A' n' ∧ GnF g A n g' A' n' ∧ tx' = tx) (rm := ({ frames := 5, cells := 0, slots := 0, locals := 107 } : Room)) (decAt dd_GN_load 18 rfl) k_GN_84 (c_GN_lineG l hE hI (i := 2) (v := (q.kf k).2) (by decide) hB) (by decide) rfl rfl rfl (Nat.le_of_ble_eq_true rfl) (by decide) (by decide) ?_
    rintro ρ5 g5 A5 n5 tx5 ⟨hI5, hX5, etx⟩
    replace etx := etx.symm; subst etx
    have hF5 := GnF.trans (GnF.rf g A n) hX5
    refine v_goto G 108 (decAt dd_GN_load 19 rfl) (by decide) ?_
    refine v_room 1 64 (by decide) (by decide) ?_
    exact v_vret G (decAt dd_GN_load 41 rfl) rfl ⟨rfl, hI5, hF5, rfl⟩
  · skip
    subst e
    have hgl : gload k q = gline 5 (nI k) q := (if_neg (by omega)).trans ((if_neg (by omega)).trans (if_pos hK))
    rw [hgl] at hB ⊢
    refine v_aload_n G (decAt dd_GN_load 0 rfl) rfl ?_
    refine v_geta G (decAt dd_GN_load 1 rfl) f_GN_18 ?_
    refine v_iload_n G (decAt dd_GN_load 2 rfl) rfl ?_
    refine v_iald G 17 k (decAt dd_GN_load 3 rfl) (by decide) rfl rfl (by omega) ?_
    refine v_ri (y := nI 4) hkd ?_
    refine v_tswIn G 98 (decAt dd_GN_load 4 rfl) (by decide) (by decide) rfl (by decide) ?_
    refine v_aload_n G (decAt dd_GN_load 36 rfl) rfl ?_
    refine q_ldcs G (i := 5) (decAt dd_GN_load 37 rfl) rfl rfl rfl ?_
    refine v_iload_n G (decAt dd_GN_load 38 rfl) rfl ?_
    refine v_callVv G (As := [.ref (E.st (10 + 5)), .int (nI k)]) (P := fun ρ' g' A' n' tx' => GnI (gline 5 (nI k) q) g' A' n' ∧ GnF g A n g' A' n' ∧ tx' = tx) (rm := ({ frames := 5, cells := 0, slots := 0, locals := 107 } : Room)) (decAt dd_GN_load 39 rfl) k_GN_84 (c_GN_lineG l hE hI (i := 5) (v := (nI k)) (by decide) hB) (by decide) rfl rfl rfl (Nat.le_of_ble_eq_true rfl) (by decide) (by decide) ?_
    rintro ρ6 g6 A6 n6 tx6 ⟨hI6, hX6, etx⟩
    replace etx := etx.symm; subst etx
    have hF6 := GnF.trans (GnF.rf g A n) hX6
    refine v_goto G 108 (decAt dd_GN_load 40 rfl) (by decide) ?_
    refine v_room 1 64 (by decide) (by decide) ?_
    exact v_vret G (decAt dd_GN_load 41 rfl) rfl ⟨rfl, hI6, hF6, rfl⟩
  · skip
    subst e
    have hgl : gload k q = q := (if_neg (by omega)).trans ((if_neg (by omega)).trans (if_neg (by omega)))
    rw [hgl] at hB ⊢
    refine v_aload_n G (decAt dd_GN_load 0 rfl) rfl ?_
    refine v_geta G (decAt dd_GN_load 1 rfl) f_GN_18 ?_
    refine v_iload_n G (decAt dd_GN_load 2 rfl) rfl ?_
    refine v_iald G 17 k (decAt dd_GN_load 3 rfl) (by decide) rfl rfl (by omega) ?_
    refine v_ri (y := nI 5) hkd ?_
    refine v_tswOut G 108 (decAt dd_GN_load 4 rfl) (by decide) (by decide) ?_
    refine v_room 1 64 (by decide) (by decide) ?_
    exact v_vret G (decAt dd_GN_load 41 rfl) rfl ⟨rfl, hI, (GnF.rf g A n), rfl⟩
set_option maxHeartbeats 4000000 in
theorem c_GN_keep (l : Launch) {E : Bs} (hE : Hb E) {ρ : Nat → Nat} {g A : Nat → Nat → Int32} {n : Nat → Nat} {tx : Value} {q : GS} (hI : GnI q g A n) {k : Nat} (hk : k < q.d) (hB : Fit (gkeep k q)) : CW l E DC AC y_GN_keep b_GN_keep 2 none ({ frames := 8, cells := 1, slots := 64, locals := 173 } : Room) [.ref (E.o 3), .int (nI k)] ρ g A n tx (fun r ρ' g' A' n' tx' => r = none ∧ GnI (gkeep k q) g' A' n' ∧ GnF g A n g' A' n' ∧ tx' = tx) := by
  refine CW.start [some (.ref (E.o 3)), some (.int (nI k))] hE (by decide) (Nat.le_of_ble_eq_true rfl) rfl ?_
  intro p e s m args below meth c G
  have hd := hI.dle
  have h17 := hI.n17
  have hkd := hI.kd hk
  have hkb : (q.kf k).1 < 10 := by rcases hI.ok hk with e | e | e | e <;> omega
  refine v_aload_n G (decAt dd_GN_keep 0 rfl) rfl ?_
  refine v_geta G (decAt dd_GN_keep 1 rfl) f_GN_18 ?_
  refine v_iload_n G (decAt dd_GN_keep 2 rfl) rfl ?_
  refine v_iald G 17 k (decAt dd_GN_keep 3 rfl) (by decide) rfl rfl (by omega) ?_
  refine v_ri (y := nI (q.kf k).1) hkd ?_
  refine v_iconst G 4 (decAt dd_GN_keep 4 rfl) (by decide) ?_
  refine v_icmp_ne G 11 (decAt dd_GN_keep 5 rfl) (by decide) (fun c7 => ?_) (fun c7 => ?_)
  · skip
    have e4 : ¬ (q.kf k).1 = 4 := fun z => c7 (by rw [z]; rfl)
    have hgl : gkeep k q = gset k (4, 0) (gline 6 (nI k) (gload k q)) := if_neg e4
    rw [hgl] at hB ⊢
    have hB1 : Fit (gline 6 (nI k) (gload k q)) := hB.of (QLe.set _ _ _)
    have hB2 : Fit (gload k q) := hB1.of (QLe.line _ _ _)
    refine v_aload_n G (decAt dd_GN_keep 7 rfl) rfl ?_
    refine v_iload_n G (decAt dd_GN_keep 8 rfl) rfl ?_
    refine v_callVv G (As := [.int (nI k)]) (P := fun ρ' g' A' n' tx' => GnI (gload k q) g' A' n' ∧ GnF g A n g' A' n' ∧ tx' = tx) (rm := ({ frames := 7, cells := 1, slots := 64, locals := 152 } : Room)) (decAt dd_GN_keep 9 rfl) k_GN_107 (c_GN_load l hE hI (k := k) hk hB2) (by decide) rfl rfl rfl (Nat.le_of_ble_eq_true rfl) (by decide) (by decide) ?_
    rintro ρ7 g7 A7 n7 tx7 ⟨hI7, hX7, etx⟩
    replace etx := etx.symm; subst etx
    have hF7 := GnF.trans (GnF.rf g A n) hX7
    refine v_aload_n G (decAt dd_GN_keep 10 rfl) rfl ?_
    refine q_ldcs G (i := 6) (decAt dd_GN_keep 11 rfl) rfl rfl rfl ?_
    refine v_iload_n G (decAt dd_GN_keep 12 rfl) rfl ?_
    refine v_callVv G (As := [.ref (E.st (10 + 6)), .int (nI k)]) (P := fun ρ' g' A' n' tx' => GnI (gline 6 (nI k) (gload k q)) g' A' n' ∧ GnF g7 A7 n7 g' A' n' ∧ tx' = tx) (rm := ({ frames := 5, cells := 0, slots := 0, locals := 107 } : Room)) (decAt dd_GN_keep 13 rfl) k_GN_84 (c_GN_lineG l hE hI7 (i := 6) (v := (nI k)) (by decide) hB1) (by decide) rfl rfl rfl (Nat.le_of_ble_eq_true rfl) (by decide) (by decide) ?_
    rintro ρ8 g8 A8 n8 tx8 ⟨hI8, hX8, etx⟩
    replace etx := etx.symm; subst etx
    have hF8 := GnF.trans hF7 hX8
    refine v_aload_n G (decAt dd_GN_keep 14 rfl) rfl ?_
    refine v_geta G (decAt dd_GN_keep 15 rfl) f_GN_18 ?_
    refine v_iload_n G (decAt dd_GN_keep 16 rfl) rfl ?_
    refine v_iconst G 4 (decAt dd_GN_keep 17 rfl) (by decide) ?_
    refine v_iast G 17 k (decAt dd_GN_keep 18 rfl) (by decide) rfl rfl (by have := hI8.n17; omega) ?_
    refine v_room 1 64 (by decide) (by decide) ?_
    exact v_vret G (decAt dd_GN_keep 19 rfl) rfl ⟨rfl, (hI8.set (x := (4, 0)) (Or.inr (Or.inr (Or.inl rfl))) (by decide)), (hF8.pA (by decide)), rfl⟩
  · skip
    have e4 : (q.kf k).1 = 4 := by first | exact (nI_eq (b := 4) (by omega) (by omega)).mp c7 | exact (nI_eq (b := 4) (by omega) (by omega)).mp (Classical.not_not.mp c7)
    have hgl : gkeep k q = q := if_pos e4
    rw [hgl]
    refine v_room 1 64 (by decide) (by decide) ?_
    exact v_vret G (decAt dd_GN_keep 6 rfl) rfl ⟨rfl, hI, (GnF.rf g A n), rfl⟩
