/-! lines, what they are as a program of the machine, a run of it -/
abbrev Lns : Type := List (Nat × Int32)
def nl (ls : Lns) : Lns := ls.filter (fun x => x.1 != 14)
def laF : Lns → Int32 → Nat → Option Nat → Option Nat
  | [], _, _, acc => acc
  | (i, x) :: r, v, n, acc => if i = 14 then laF r v n (if x = v then some n else acc) else laF r v (n + 1) acc
/-- a label's place: how many words are ahead of it -/
def la (ls : Lns) (v : Int32) : Option Nat := laF ls v 0 none
def cmp1 (f : Int32 → Option Nat) (x : Nat × Int32) : Nat × Int32 := if isL x.1 = true then (x.1, nI ((f x.2).getD 0)) else x
def cmp (ls : Lns) : Lns := (nl ls).map (cmp1 (la ls))
theorem nl_app (p s : Lns) : nl (p ++ s) = nl p ++ nl s := List.filter_append ..
theorem nl_y {i : Nat} {v : Int32} {s : Lns} (h : i ≠ 14) : nl ((i, v) :: s) = (i, v) :: nl s := by
  unfold nl
  rw [List.filter_cons_of_pos (by simpa using h)]
theorem nl_n {v : Int32} {s : Lns} : nl ((14, v) :: s) = nl s := by
  unfold nl
  rw [List.filter_cons_of_neg (by simp)]
theorem laF_app (s : Lns) (v : Int32) : ∀ (p : Lns) (n : Nat) (acc : Option Nat), laF (p ++ s) v n acc = laF s v (n + (nl p).length) (laF p v n acc)
  | [], n, acc => rfl
  | (i, x) :: r, n, acc => by
    rw [List.cons_append]
    by_cases h : i = 14
    · rw [laF, if_pos h, laF, if_pos h, laF_app s v r, h, nl_n]
    · rw [laF, if_neg h, laF, if_neg h, laF_app s v r, nl_y h, List.length_cons]
      congr 1
      omega
theorem laF_no {v : Int32} : ∀ {s : Lns} {n : Nat} {acc : Option Nat}, (∀ y, y ∈ s → y ≠ (14, v)) → laF s v n acc = acc
  | [], n, acc, _ => rfl
  | (i, x) :: r, n, acc, h => by
    have ih := fun n acc => laF_no (v := v) (s := r) (n := n) (acc := acc) (fun y hy => h y (List.mem_cons_of_mem _ hy))
    by_cases e : i = 14
    · rw [laF, if_pos e, ih, if_neg (fun z => h (i, x) List.mem_cons_self (by rw [e, z]))]
    · rw [laF, if_neg e, ih]
theorem la_at {p s : Lns} {v : Int32} (h : ∀ y, y ∈ s → y ≠ (14, v)) : la (p ++ (14, v) :: s) v = some (nl p).length := by
  unfold la
  rw [laF_app, laF, if_pos rfl, if_pos rfl, laF_no h, Nat.zero_add]
abbrev MRes : Type := Nat × Int32 × (Nat → Int32) × Nat
/-- what X does: 0 and on, or one more than how it ends -/
def mX (x : Nat) (a b : Int32) (st : Nat → Int32) (fu : Nat) : Option (Nat × Int32 × (Nat → Int32) × Nat) :=
  if x = 1 then some (if isW a.toInt = true then (0, st a.toNatClampNeg, st, fu) else (3, a, st, fu))
  else if x = 2 then some (0, -a, st, fu)
  else if x = 3 then some (0, a ^^^ (-1), st, fu)
  else if x = 4 then some (1, a, st, fu)
  else if x = 5 then some (if isW a.toInt = true then (0, a, va_up st a.toNatClampNeg b, fu) else (3, a, st, fu))
  else if x = 6 then some (if isW (wAt b a) = true then (0, getb (st (wAt b a).toNat) a, st, fu) else (3, a, st, fu))
  else if x = 7 then some (if isW (wAt b a) = true then (0, (nI (wAt b a).toNat <<< ((2 : Int32) &&& 31)) ||| (a &&& 3), st, fu) else (3, a, st, fu))
  else if x = 8 then (if isW (a >>> ((2 : Int32) &&& 31)).toInt = true then some (0, a, va_up st (a >>> ((2 : Int32) &&& 31)).toNatClampNeg (setb (st (a >>> ((2 : Int32) &&& 31)).toNatClampNeg) a b), fu) else none)
  else if x = 9 then some (if 0 < fu then (0, a, st, fu - 1) else (2, a, st, fu))
  else if x = 10 then some (5, a, st, fu)
  else if 20 ≤ x ∧ x ≤ 30 then some (if (x = 23 ∨ x = 24) ∧ a = 0 then (4, a, st, fu) else (0, opr (x - 20) b a, st, fu))
  else if 40 ≤ x ∧ x ≤ 45 then some (0, rI (rel (x - 40) b a), st, fu)
  else none
def mrun (P : Lns) : Nat → Nat → Int32 → Int32 → (Nat → Int32) → (Nat → Int32) → Nat → Option MRes
  | 0, _, _, _, _, _, _ => none
  | N + 1, p, a, b, row, st, fu => match P[p]? with
    | none => none
    | some (i, v) =>
      if i = 0 then (if small v = true then mrun P N (p + 1) v a row st fu else none)
      else if i = 1 then (match P[v.toNatClampNeg]? with | some (_, x) => mrun P N (p + 1) x a row st fu | none => none)
      else if i = 2 then (if inR v 16 = true then mrun P N (p + 1) (st (64 + v.toNatClampNeg)) a row st fu else none)
      else if i = 5 then (if inR v 61 = true then mrun P N (p + 1) (row v.toNatClampNeg) a row st fu else none)
      else if i = 6 then (if inR v 61 = true then mrun P N (p + 1) a b (va_up row v.toNatClampNeg a) st fu else none)
      else if i = 7 then (if inR v 16 = true then mrun P N (p + 1) a b row (va_up st (64 + v.toNatClampNeg) a) fu else none)
      else if i = 12 then mrun P N (if a = 0 then p + 1 else v.toNatClampNeg) a b row st fu
      else if i = 13 then mrun P N v.toNatClampNeg a b row st fu
      else if i = 15 then mrun P N (if a = 0 then v.toNatClampNeg else p + 1) a b row st fu
      else if i = 9 then (match mX v.toNatClampNeg a b st fu with
        | none => none
        | some (e, a', st', fu') => if e = 0 then mrun P N (p + 1) a' b row st' fu' else some (e - 1, (if e = 1 then a' else 0), st', fu'))
      else none
/-- what comes of the second state comes of the first -/
def Sps (P : Lns) (p : Nat) (a b : Int32) (row st : Nat → Int32) (fu : Nat) (p' : Nat) (a' b' : Int32) (row' st' : Nat → Int32) (fu' : Nat) : Prop := ∀ N r, mrun P N p' a' b' row' st' fu' = some r → ∃ N', mrun P N' p a b row st fu = some r
section STP
variable {P : Lns} {p p' p2 : Nat} {a b a' b' a2 b2 : Int32} {row st row' st' row2 st2 : Nat → Int32} {fu fu' fu2 : Nat}
theorem Sps.rf : Sps P p a b row st fu p a b row st fu := fun N r h => ⟨N, h⟩
theorem Sps.trans (h1 : Sps P p a b row st fu p' a' b' row' st' fu') (h2 : Sps P p' a' b' row' st' fu' p2 a2 b2 row2 st2 fu2) : Sps P p a b row st fu p2 a2 b2 row2 st2 fu2 := fun N r h => by
  obtain ⟨N', h'⟩ := h2 N r h
  exact h1 N' r h'
theorem s_0 {v : Int32} (h : P[p]? = some (0, v)) (hv : small v = true) : Sps P p a b row st fu (p + 1) v a row st fu := fun N r hr => ⟨N + 1, by rw [mrun.eq_def]; dsimp only; rw [h]; dsimp only; rw [if_pos rfl, if_pos hv]; exact hr⟩
theorem s_1 {v x : Int32} {i : Nat} (h : P[p]? = some (1, v)) (hx : P[v.toNatClampNeg]? = some (i, x)) : Sps P p a b row st fu (p + 1) x a row st fu := fun N r hr => ⟨N + 1, by rw [mrun.eq_def]; dsimp only; rw [h]; dsimp only; rw [if_neg (by decide), if_pos rfl, hx]; exact hr⟩
theorem s_2 {v : Int32} (h : P[p]? = some (2, v)) (hv : inR v 16 = true) : Sps P p a b row st fu (p + 1) (st (64 + v.toNatClampNeg)) a row st fu := fun N r hr => ⟨N + 1, by rw [mrun.eq_def]; dsimp only; rw [h]; dsimp only; rw [if_neg (by decide), if_neg (by decide), if_pos rfl, if_pos hv]; exact hr⟩
theorem s_5 {v : Int32} (h : P[p]? = some (5, v)) (hv : inR v 61 = true) : Sps P p a b row st fu (p + 1) (row v.toNatClampNeg) a row st fu := fun N r hr => ⟨N + 1, by rw [mrun.eq_def]; dsimp only; rw [h]; dsimp only; rw [if_neg (by decide), if_neg (by decide), if_neg (by decide), if_pos rfl, if_pos hv]; exact hr⟩
theorem s_6 {v : Int32} (h : P[p]? = some (6, v)) (hv : inR v 61 = true) : Sps P p a b row st fu (p + 1) a b (va_up row v.toNatClampNeg a) st fu := fun N r hr => ⟨N + 1, by rw [mrun.eq_def]; dsimp only; rw [h]; dsimp only; rw [if_neg (by decide), if_neg (by decide), if_neg (by decide), if_neg (by decide), if_pos rfl, if_pos hv]; exact hr⟩
theorem s_7 {v : Int32} (h : P[p]? = some (7, v)) (hv : inR v 16 = true) : Sps P p a b row st fu (p + 1) a b row (va_up st (64 + v.toNatClampNeg) a) fu := fun N r hr => ⟨N + 1, by rw [mrun.eq_def]; dsimp only; rw [h]; dsimp only; rw [if_neg (by decide), if_neg (by decide), if_neg (by decide), if_neg (by decide), if_neg (by decide), if_pos rfl, if_pos hv]; exact hr⟩
theorem s_12 {v : Int32} (h : P[p]? = some (12, v)) : Sps P p a b row st fu (if a = 0 then p + 1 else v.toNatClampNeg) a b row st fu := fun N r hr => ⟨N + 1, by rw [mrun.eq_def]; dsimp only; rw [h]; dsimp only; rw [if_neg (by decide), if_neg (by decide), if_neg (by decide), if_neg (by decide), if_neg (by decide), if_neg (by decide), if_pos rfl]; exact hr⟩
theorem s_13 {v : Int32} (h : P[p]? = some (13, v)) : Sps P p a b row st fu v.toNatClampNeg a b row st fu := fun N r hr => ⟨N + 1, by rw [mrun.eq_def]; dsimp only; rw [h]; dsimp only; rw [if_neg (by decide), if_neg (by decide), if_neg (by decide), if_neg (by decide), if_neg (by decide), if_neg (by decide), if_neg (by decide), if_pos rfl]; exact hr⟩
theorem s_15 {v : Int32} (h : P[p]? = some (15, v)) : Sps P p a b row st fu (if a = 0 then v.toNatClampNeg else p + 1) a b row st fu := fun N r hr => ⟨N + 1, by rw [mrun.eq_def]; dsimp only; rw [h]; dsimp only; rw [if_neg (by decide), if_neg (by decide), if_neg (by decide), if_neg (by decide), if_neg (by decide), if_neg (by decide), if_neg (by decide), if_neg (by decide), if_pos rfl]; exact hr⟩
theorem s_9 {v : Int32} {x : Nat} (h : P[p]? = some (9, v)) (hx : v.toNatClampNeg = x) (hm : mX x a b st fu = some (0, a', st', fu')) : Sps P p a b row st fu (p + 1) a' b row st' fu' := fun N r hr => ⟨N + 1, by rw [mrun.eq_def]; dsimp only; rw [h]; dsimp only; rw [if_neg (by decide), if_neg (by decide), if_neg (by decide), if_neg (by decide), if_neg (by decide), if_neg (by decide), if_neg (by decide), if_neg (by decide), if_neg (by decide), if_pos rfl, hx, hm]; exact hr⟩
theorem e_9 {v : Int32} {x e : Nat} (h : P[p]? = some (9, v)) (hx : v.toNatClampNeg = x) (hm : mX x a b st fu = some (e + 1, a', st', fu')) : mrun P 1 p a b row st fu = some (e, (if e + 1 = 1 then a' else 0), st', fu') := by
  rw [mrun.eq_def]
  dsimp only
  rw [h]
  dsimp only
  rw [if_neg (by decide), if_neg (by decide), if_neg (by decide), if_neg (by decide), if_neg (by decide), if_neg (by decide), if_neg (by decide), if_neg (by decide), if_neg (by decide), if_pos rfl, hx, hm]
  dsimp only
  rw [if_neg (by omega)]
  rfl
end STP
-- lines that are added, great constants that are added
def Ext (q q' : GS) : Prop := (∃ x, q'.ls = q.ls ++ x ∧ ∀ y, y ∈ x → y.1 ≠ 14) ∧ ∃ x, q'.gr = q.gr ++ x
theorem Ext.rf (q : GS) : Ext q q := ⟨⟨[], (List.append_nil _).symm, fun y hy => by cases hy⟩, [], (List.append_nil _).symm⟩
theorem Ext.trans {q q' q2 : GS} (h1 : Ext q q') (h2 : Ext q' q2) : Ext q q2 := by
  obtain ⟨⟨x, e, hx⟩, y, e2⟩ := h1
  obtain ⟨⟨x', e', hx'⟩, y', e2'⟩ := h2
  refine ⟨⟨x ++ x', by rw [e', e, List.append_assoc], fun z hz => ?_⟩, y ++ y', by rw [e2', e2, List.append_assoc]⟩
  rcases List.mem_append.mp hz with h | h
  · exact hx z h
  · exact hx' z h
theorem Ext.line {i : Nat} (v : Int32) (q : GS) (h : i ≠ 14) : Ext q (gline i v q) := ⟨⟨[(i, v)], rfl, fun y hy => by rw [List.mem_singleton.mp hy]; exact h⟩, [], (List.append_nil _).symm⟩
theorem Ext.add (v : Int32) (q : GS) : Ext q (gadd v q) := by
  refine ⟨⟨[], (List.append_nil _).symm, fun y hy => by cases hy⟩, ?_⟩
  show ∃ x, (if gidx v q.gr = q.gr.length then q.gr ++ [v] else q.gr) = q.gr ++ x
  split
  · exact ⟨[v], rfl⟩
  · exact ⟨[], (List.append_nil _).symm⟩
theorem Ext.con (v : Int32) (q : GS) : Ext q (gcon v q) := by
  unfold gcon
  split
  · exact Ext.line _ _ (by decide)
  · exact (Ext.add v q).trans (Ext.line _ _ (by decide))
theorem Ext.load (k : Nat) (q : GS) : Ext q (gload k q) := by
  unfold gload
  split
  · exact Ext.con _ _
  · split
    · exact Ext.line _ _ (by decide)
    · split
      · exact Ext.line _ _ (by decide)
      · exact Ext.rf q
theorem Ext.keep (k : Nat) (q : GS) : Ext q (gkeep k q) := by
  unfold gkeep
  split
  · exact Ext.rf q
  · exact (Ext.load k q).trans (Ext.line (i := 6) _ _ (by decide))
theorem Ext.bth (q : GS) : Ext q (gbth q) := by
  unfold gbth
  split
  · exact Ext.keep _ q
  · exact Ext.rf q
theorem Ext.top (q : GS) : Ext q (gtop q) := by
  unfold gtop
  split
  · exact Ext.bth q
  · exact Ext.rf q
theorem Ext.keepN (q : GS) : ∀ k, Ext q (gkeepN k q)
  | 0 => Ext.rf q
  | k + 1 => (Ext.keepN q k).trans (Ext.keep k _)
theorem Ext.keepAll (q : GS) : Ext q (gkeepAll q) := (Ext.top q).trans (Ext.keepN _ _)
theorem Ext.both (q : GS) : Ext q (gboth q) := ((Ext.bth q).trans (Ext.load _ _)).trans (Ext.load _ _)
theorem Ext.keepBelow (q : GS) : Ext q (gkeepBelow q) := by
  unfold gkeepBelow
  refine Ext.trans ?_ (Ext.keepN _ _)
  split
  · exact Ext.bth q
  · exact Ext.rf q
theorem Ext.keep2 (k : Nat) (q : GS) : Ext q (gkeep2 k q) := by
  unfold gkeep2
  split
  · exact Ext.rf q
  · exact (Ext.bth q).trans (Ext.keep _ _)
theorem Ext.keep2N (q : GS) : ∀ k, Ext q (gkeep2N k q)
  | 0 => Ext.rf q
  | k + 1 => (Ext.keep2N q k).trans (Ext.keep2 k _)
theorem Ext.of {q q' q1 q1' : GS} (h : Ext q q') (e1 : q1.ls = q.ls) (e2 : q1.gr = q.gr) (e3 : q1'.ls = q'.ls) (e4 : q1'.gr = q'.gr) : Ext q1 q1' := by
  unfold Ext
  rw [e1, e2, e3, e4]
  exact h
theorem gone_ext (q : GS) (N dl : Nat) (a fo : Int32) (hN : N ≤ 20) (h13 : N ≠ 13) : Ext q (gone N a fo dl q) := by
  have hN' : N = 0 ∨ N = 1 ∨ N = 2 ∨ N = 3 ∨ N = 4 ∨ N = 5 ∨ N = 6 ∨ N = 7 ∨ N = 8 ∨ N = 9 ∨ N = 10 ∨ (N = 11 ∨ N = 12) ∨ N = 14 ∨ N = 15 ∨ N = 16 ∨ N = 17 ∨ N = 18 ∨ N = 19 ∨ N = 20 := by omega
  rcases hN' with rfl | rfl | rfl | rfl | rfl | rfl | rfl | rfl | rfl | rfl | rfl | h | rfl | rfl | rfl | rfl | rfl | rfl | rfl
  · exact Ext.top q
  · exact Ext.top q
  · exact ((Ext.keepBelow q).trans (Ext.load _ _)).trans (Ext.line (i := 7) a _ (by decide))
  · exact (Ext.load _ _).trans (Ext.line (i := 9) 1 _ (by decide))
  · exact ((Ext.keep2N q (q.d - 2)).trans (Ext.both _)).trans (Ext.line (i := 9) 5 _ (by decide))
  · exact (Ext.load _ _).trans (Ext.line (i := 9) 2 _ (by decide))
  · exact (Ext.load _ _).trans (Ext.line (i := 9) 3 _ (by decide))
  · exact (Ext.both q).trans (Ext.line (i := 9) (20 + a) _ (by decide))
  · exact (Ext.both q).trans (Ext.line (i := 9) (40 + a) _ (by decide))
  · exact ((Ext.both q).trans (Ext.line (i := 6) (nI (q.d - 2)) _ (by decide))).trans (Ext.line (i := 9) (40 + a) _ (by decide))
  · exact (Ext.keepAll q).trans (Ext.line (i := 13) a _ (by decide))
  · have e : gone N a fo dl q = ggoes N a dl q := by rcases h with rfl | rfl <;> rfl
    rw [e]
    unfold ggoes
    rw [if_neg (by omega), if_neg h13]
    split
    · exact Ext.rf q
    · exact ((Ext.keepAll q).trans (Ext.load (q.d - 1) _)).trans (Ext.line (i := if N = 12 then 12 else 15) a (gload (q.d - 1) (gkeepAll q)) (by split <;> decide))
  · exact Ext.rf q
  · exact Ext.line (i := 9) 9 _ (by decide)
  · exact (Ext.load (q.d - 1) _).trans (Ext.line (i := 9) 4 _ (by decide))
  · exact Ext.line (i := 9) 10 _ (by decide)
  · exact ((((Ext.keepAll q).trans (Ext.load (q.d - 1) _)).trans (Ext.con a _)).trans (Ext.line (i := 9) 40 _ (by decide))).trans (Ext.line (i := 12) fo _ (by decide))
  · exact (Ext.both q).trans (Ext.line (i := 9) 6 _ (by decide))
  · have e : gone 20 a fo dl q = gdep (q.d - 3) (gline 9 8 (gline 5 (nI (q.d - 1)) (gload (q.d - 3) (gline 6 (nI (q.d - 1)) (gline 9 7 (gboth (gkeep2N (q.d - 3) q))))))) := rfl
    have h : Ext q (gline 9 8 (gline 5 (nI (q.d - 1)) (gload (q.d - 3) (gline 6 (nI (q.d - 1)) (gline 9 7 (gboth (gkeep2N (q.d - 3) q))))))) := ((((((Ext.keep2N q (q.d - 3)).trans (Ext.both _)).trans (Ext.line (i := 9) 7 _ (by decide))).trans (Ext.line (i := 6) (nI (q.d - 1)) _ (by decide))).trans (Ext.load (q.d - 3) _)).trans (Ext.line (i := 5) (nI (q.d - 1)) _ (by decide))).trans (Ext.line (i := 9) 8 _ (by decide))
    rw [e]
    generalize (gline 9 8 (gline 5 (nI (q.d - 1)) (gload (q.d - 3) (gline 6 (nI (q.d - 1)) (gline 9 7 (gboth (gkeep2N (q.d - 3) q))))))) = y at h ⊢
    exact h
theorem gidx_get (v : Int32) : ∀ r : List Int32, gidx v r < r.length → r[gidx v r]? = some v
  | [], h => by simp at h
  | x :: r, h => by
    rw [gidx] at h ⊢
    by_cases e : x = v
    · rw [if_pos e, e]; rfl
    · rw [if_neg e] at h ⊢
      rw [List.getElem?_cons_succ]
      exact gidx_get v r (by simp only [List.length_cons] at h; omega)
theorem gadd_get (v : Int32) (q : GS) : (gadd v q).gr[gidx v q.gr]? = some v := by
  show (if gidx v q.gr = q.gr.length then q.gr ++ [v] else q.gr)[gidx v q.gr]? = _
  split
  · next h => rw [h, List.getElem?_append_right (Nat.le_refl _), Nat.sub_self]; rfl
  · next h => exact gidx_get v q.gr (by have := gidx_le v q.gr; omega)
