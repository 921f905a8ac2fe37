/-! the lines that are made are lines that can be loaded -/
def LnP (c : Cod) (G : List Int32) (y : Nat × Int32) : Prop := (insK y.1 ∨ y.1 = 11 ∨ y.1 = 14) ∧ (y.1 = 14 ∨ isL y.1 = true → (inR y.2 100 = true ∧ ∃ t, lbl c y.2 = some t) ∨ ∃ g, g < G.length ∧ y.2 = nI (100 + g)) ∧ (y.1 = 1 → ∃ g, g < G.length ∧ y.2 = nI (100 + g))
def XP (c : Cod) (G : List Int32) (q q' : GS) : Prop := ∃ x, q'.ls = q.ls ++ x ∧ ∀ y, y ∈ x → LnP c G y
section XPS
variable {c : Cod} {F : Lns} {G : List Int32}
theorem XP.rf (q : GS) : XP c G q q := ⟨[], (List.append_nil _).symm, fun y hy => by cases hy⟩
theorem XP.trans {q q' q2 : GS} (h1 : XP c G q q') (h2 : XP c G q' q2) : XP c G q q2 := by
  obtain ⟨x, e, hx⟩ := h1
  obtain ⟨x', e', hx'⟩ := h2
  refine ⟨x ++ x', by rw [e', e, List.append_assoc], fun z hz => ?_⟩
  rcases List.mem_append.mp hz with h | h
  · exact hx z h
  · exact hx' z h
theorem XP.line {i : Nat} {v : Int32} (q : GS) (h : LnP c G (i, v)) : XP c G q (gline i v q) := ⟨[(i, v)], rfl, fun y hy => by rw [List.mem_singleton.mp hy]; exact h⟩
theorem lnP {i : Nat} {v : Int32} (h : insK i) (hl : isL i = false) (h14 : i ≠ 14) : LnP c G (i, v) := by
  refine ⟨Or.inl h, fun z => ?_, fun z => ?_⟩
  · rcases z with z | z
    · exact absurd z h14
    · dsimp only at z
      rw [hl] at z
      cases z
  · dsimp only at z
    rw [z] at hl
    cases hl
theorem XP.con {v : Int32} {q : GS} (h : Pre F G (gcon v q)) : XP c G q (gcon v q) := by
  unfold gcon at h ⊢
  by_cases hs : small v = true
  · rw [if_pos hs]
    exact XP.line _ (lnP (Or.inl rfl) rfl (by decide))
  · rw [if_neg hs] at h ⊢
    obtain ⟨x, e⟩ := (h.of (Ext.line (i := 1) _ _ (by decide)) : Pre F G (gadd v q)).2
    have hl := (List.getElem?_eq_some_iff.mp (gadd_get v q)).1
    have hl2 : gidx v q.gr < G.length := by rw [e, List.length_append]; omega
    exact XP.trans (q' := gadd v q) ⟨[], (List.append_nil _).symm, fun y hy => by cases hy⟩ (XP.line _ ⟨Or.inl (Or.inr (Or.inl rfl)), fun _ => Or.inr ⟨_, hl2, rfl⟩, fun _ => ⟨_, hl2, rfl⟩⟩)
theorem XP.load {k : Nat} {q : GS} (h : Pre F G (gload k q)) : XP c G q (gload k q) := by
  unfold gload at h ⊢
  by_cases h0 : (q.kf k).1 = 0
  · rw [if_pos h0] at h ⊢
    exact XP.con h
  · rw [if_neg h0]
    by_cases h1 : (q.kf k).1 = 1
    · rw [if_pos h1]
      exact XP.line _ (lnP (Or.inr (Or.inr (Or.inl rfl))) rfl (by decide))
    · rw [if_neg h1]
      by_cases h4 : (q.kf k).1 = 4
      · rw [if_pos h4]
        exact XP.line _ (lnP (Or.inr (Or.inr (Or.inr (Or.inl rfl)))) rfl (by decide))
      · rw [if_neg h4]
        exact XP.rf q
theorem ln6 {v : Int32} : LnP c G (6, v) := lnP (by unfold insK; omega) rfl (by decide)
theorem ln9 {v : Int32} : LnP c G (9, v) := lnP (by unfold insK; omega) rfl (by decide)
theorem ln5 {v : Int32} : LnP c G (5, v) := lnP (by unfold insK; omega) rfl (by decide)
theorem ln7 {v : Int32} : LnP c G (7, v) := lnP (by unfold insK; omega) rfl (by decide)
theorem XP.keep {k : Nat} {q : GS} (h : Pre F G (gkeep k q)) : XP c G q (gkeep k q) := by
  unfold gkeep at h ⊢
  by_cases h4 : (q.kf k).1 = 4
  · rw [if_pos h4]; exact XP.rf q
  · rw [if_neg h4] at h ⊢
    have h' : Pre F G (gline 6 (nI k) (gload k q)) := h
    exact (XP.load (h'.of (Ext.line (i := 6) _ _ (by decide)))).trans (XP.line _ ln6)
theorem XP.bth {q : GS} (h : Pre F G (gbth q)) : XP c G q (gbth q) := by
  unfold gbth at h ⊢
  by_cases h5 : (q.kf (q.d - 1)).1 = 5
  · rw [if_pos h5] at h ⊢; exact XP.keep h
  · rw [if_neg h5]; exact XP.rf q
theorem XP.top {q : GS} (h : Pre F G (gtop q)) : XP c G q (gtop q) := by
  unfold gtop at h ⊢
  by_cases h5 : 0 < q.d
  · rw [if_pos h5] at h ⊢; exact XP.bth h
  · rw [if_neg h5]; exact XP.rf q
theorem XP.keepN {q : GS} : ∀ k, Pre F G (gkeepN k q) → XP c G q (gkeepN k q)
  | 0, _ => XP.rf q
  | k + 1, h => by
    have h' : Pre F G (gkeep k (gkeepN k q)) := h
    exact (XP.keepN k (h'.of (Ext.keep _ _))).trans (XP.keep h')
theorem XP.keepAll {q : GS} (h : Pre F G (gkeepAll q)) : XP c G q (gkeepAll q) := by
  unfold gkeepAll at h ⊢
  exact (XP.top (h.of (Ext.keepN _ _))).trans (XP.keepN _ h)
theorem XP.both {q : GS} (h : Pre F G (gboth q)) : XP c G q (gboth q) := by
  unfold gboth at h ⊢
  have h1 := h.of (Ext.load _ _)
  exact ((XP.bth (h1.of (Ext.load _ _))).trans (XP.load h1)).trans (XP.load h)
theorem XP.keepBelow {q : GS} (h : Pre F G (gkeepBelow q)) : XP c G q (gkeepBelow q) := by
  unfold gkeepBelow at h ⊢
  have h1 := h.of (Ext.keepN _ _)
  refine XP.trans ?_ (XP.keepN _ h)
  by_cases h5 : 1 < q.d
  · rw [if_pos h5] at h1 ⊢; exact XP.bth h1
  · rw [if_neg h5]; exact XP.rf q
theorem XP.keep2 {k : Nat} {q : GS} (h : Pre F G (gkeep2 k q)) : XP c G q (gkeep2 k q) := by
  unfold gkeep2 at h ⊢
  by_cases h4 : (q.kf k).1 = 4
  · rw [if_pos h4]; exact XP.rf q
  · rw [if_neg h4] at h ⊢
    exact (XP.bth (h.of (Ext.keep _ _))).trans (XP.keep h)
theorem XP.keep2N {q : GS} : ∀ k, Pre F G (gkeep2N k q) → XP c G q (gkeep2N k q)
  | 0, _ => XP.rf q
  | k + 1, h => by
    have h' : Pre F G (gkeep2 k (gkeep2N k q)) := h
    exact (XP.keep2N k (h'.of (Ext.keep2 _ _))).trans (XP.keep2 h')
theorem XP.one {q : GS} {N dl : Nat} {a fo : Int32} (hN : N ≤ 20) (hl : N = 10 ∨ N = 11 ∨ N = 12 ∨ N = 13 → inR a 100 = true ∧ ∃ t, lbl c a = some t) (hfo : N = 18 → inR fo 100 = true ∧ ∃ t, lbl c fo = some t) (h : Pre F G (gone N a fo dl q)) : XP c G q (gone N a fo dl q) := by
  have hN' : N = 0 ∨ N = 1 ∨ N = 2 ∨ N = 3 ∨ N = 4 ∨ N = 5 ∨ N = 6 ∨ N = 7 ∨ N = 8 ∨ N = 9 ∨ N = 10 ∨ (N = 11 ∨ N = 12) ∨ N = 13 ∨ N = 14 ∨ N = 15 ∨ N = 16 ∨ N = 17 ∨ N = 18 ∨ N = 19 ∨ N = 20 := by omega
  have e9 : ∀ {v : Int32} {q' : GS}, Ext q' (gline 9 v q') := fun {v q'} => Ext.line (i := 9) v q' (by decide)
  rcases hN' with rfl | rfl | rfl | rfl | rfl | rfl | rfl | rfl | rfl | rfl | rfl | h2 | rfl | rfl | rfl | rfl | rfl | rfl | rfl | rfl
  · exact XP.top (q := q) h
  · exact XP.top (q := q) h
  · have h' : Pre F G (gline 7 a (gload (q.d - 1) (gkeepBelow q))) := h
    have h1 := h'.of (Ext.line (i := 7) _ _ (by decide))
    exact ((XP.keepBelow (h1.of (Ext.load _ _))).trans (XP.load h1)).trans (XP.line (i := 7) _ ln7)
  · have h' : Pre F G (gline 9 1 (gload (q.d - 1) q)) := h
    exact (XP.load (h'.of e9)).trans (XP.line (i := 9) _ ln9)
  · have h' : Pre F G (gline 9 5 (gboth (gkeep2N (q.d - 2) q))) := h
    have h1 := h'.of e9
    exact ((XP.keep2N _ (h1.of (Ext.both _))).trans (XP.both h1)).trans (XP.line (i := 9) _ ln9)
  · have h' : Pre F G (gline 9 2 (gload (q.d - 1) q)) := h
    exact (XP.load (h'.of e9)).trans (XP.line (i := 9) _ ln9)
  · have h' : Pre F G (gline 9 3 (gload (q.d - 1) q)) := h
    exact (XP.load (h'.of e9)).trans (XP.line (i := 9) _ ln9)
  · have h' : Pre F G (gline 9 (20 + a) (gboth q)) := h
    exact (XP.both (h'.of e9)).trans (XP.line (i := 9) _ ln9)
  · have h' : Pre F G (gline 9 (40 + a) (gboth q)) := h
    exact (XP.both (h'.of e9)).trans (XP.line (i := 9) _ ln9)
  · have h' : Pre F G (gline 9 (40 + a) (gline 6 (nI (q.d - 2)) (gboth q))) := h
    have h1 := h'.of e9
    exact ((XP.both (h1.of (Ext.line (i := 6) _ _ (by decide)))).trans (XP.line (i := 6) _ ln6)).trans (XP.line (i := 9) _ ln9)
  · have h' : Pre F G (gline 13 a (gkeepAll q)) := h
    exact (XP.keepAll (h'.of (Ext.line (i := 13) _ _ (by decide)))).trans (XP.line (i := 13) _ ⟨Or.inl (by unfold insK; omega), fun _ => Or.inl (hl (Or.inl rfl)), fun z => by cases z⟩)
  · have e : gone N a fo dl q = ggoes N a dl q := by rcases h2 with rfl | rfl <;> rfl
    rw [e] at h ⊢
    unfold ggoes at h ⊢
    rw [if_neg (by omega), if_neg (by omega)] at h ⊢
    by_cases hs : q.sa = true
    · rw [if_pos hs]; exact XP.rf q
    · rw [if_neg hs] at h ⊢
      have h14 : (if N = 12 then 12 else 15) ≠ 14 := by split <;> decide
      have hin : insK (if N = 12 then 12 else 15) := by split <;> (unfold insK; omega)
      have h' : Pre F G (gline (if N = 12 then 12 else 15) a (gload (q.d - 1) (gkeepAll q))) := h
      have h1 := h'.of (Ext.line _ _ h14)
      exact ((XP.keepAll (h1.of (Ext.load _ _))).trans (XP.load h1)).trans (XP.line (i := if N = 12 then 12 else 15) (v := a) (gload (q.d - 1) (gkeepAll q)) ⟨Or.inl hin, fun _ => Or.inl (hl (by omega)), fun z => absurd z (by dsimp only; split <;> decide)⟩)
  · rw [gone13] at h ⊢
    have h1 : Pre F G (if q.re = true then gkeepAll q else q) := by
      obtain ⟨⟨x, e⟩, y, e2⟩ := h
      exact ⟨⟨[(14, a)] ++ x, by rw [e]; show ((if q.re = true then gkeepAll q else q).ls ++ [(14, a)]) ++ x = _; rw [List.append_assoc]⟩, y, e2⟩
    have h2 : XP c G q (if q.re = true then gkeepAll q else q) := by
      by_cases hr : q.re = true
      · rw [if_pos hr] at h1 ⊢; exact XP.keepAll h1
      · rw [if_neg hr]; exact XP.rf q
    exact h2.trans (XP.line (i := 14) (v := a) (gre true (glab dl (if q.re = true then gkeepAll q else q))) ⟨Or.inr (Or.inr rfl), fun _ => Or.inl (hl (by omega)), fun z => by cases z⟩)
  · exact XP.rf q
  · exact XP.line (i := 9) _ ln9
  · have h' : Pre F G (gline 9 4 (gload (q.d - 1) q)) := h
    exact (XP.load (h'.of e9)).trans (XP.line (i := 9) _ ln9)
  · exact XP.line (i := 9) _ ln9
  · have h' : Pre F G (gline 12 fo (gline 9 40 (gcon a (gload (q.d - 1) (gkeepAll q))))) := h
    have h1 := h'.of (Ext.line (i := 12) _ _ (by decide))
    have h2 := h1.of e9
    have h3 := h2.of (Ext.con _ _)
    exact ((((XP.keepAll (h3.of (Ext.load _ _))).trans (XP.load h3)).trans (XP.con h2)).trans (XP.line (i := 9) _ ln9)).trans (XP.line (i := 12) _ ⟨Or.inl (by unfold insK; omega), fun _ => Or.inl (hfo rfl), fun z => by cases z⟩)
  · have h' : Pre F G (gline 9 6 (gboth q)) := h
    exact (XP.both (h'.of e9)).trans (XP.line (i := 9) _ ln9)
  · have e : gone 20 a fo dl q = gdep (q.d - 3) (gline 9 8 (gline 5 (nI (q.d - 1)) (gload (q.d - 3) (gline 6 (nI (q.d - 1)) (gline 9 7 (gboth (gkeep2N (q.d - 3) q))))))) := rfl
    rw [e] at h ⊢
    have h' := Pre.dep h
    have h1 := h'.of e9
    have h2 := h1.of (Ext.line (i := 5) _ _ (by decide))
    have h3 := h2.of (Ext.load _ _)
    have h4 := h3.of (Ext.line (i := 6) _ _ (by decide))
    have h5 := h4.of e9
    have hX : XP c G q (gline 9 8 (gline 5 (nI (q.d - 1)) (gload (q.d - 3) (gline 6 (nI (q.d - 1)) (gline 9 7 (gboth (gkeep2N (q.d - 3) q))))))) := ((((((XP.keep2N _ (h5.of (Ext.both _))).trans (XP.both h5)).trans (XP.line (i := 9) _ ln9)).trans (XP.line (i := 6) _ ln6)).trans (XP.load h2)).trans (XP.line (i := 5) _ ln5)).trans (XP.line (i := 9) _ ln9)
    generalize (gline 9 8 (gline 5 (nI (q.d - 1)) (gload (q.d - 3) (gline 6 (nI (q.d - 1)) (gline 9 7 (gboth (gkeep2N (q.d - 3) q))))))) = y at hX ⊢
    exact hX
end XPS
theorem xp_fold {c : Cod} {ht : Nat → Option Nat} (hL : LabC c) : ∀ i, i ≤ c.length → ∀ y, y ∈ (gfold c ht i).ls → LnP c (gfold c ht c.length).gr y
  | 0, _, y, hy => by cases hy
  | i + 1, hi, y, hy => by
    have hg := List.getElem?_eq_getElem (show i < c.length by omega)
    generalize hxx : c[i] = xx at hg
    obtain ⟨N, a⟩ := xx
    have hpre := pre_fold (ht := ht) hL hi
    obtain ⟨l1, l2, l3, l4, l5⟩ := hL i N a hg
    obtain ⟨fo, es, hfo⟩ : ∃ fo, gfold c ht (i + 1) = gone N a fo ((ht i).getD 0) (gfold c ht i) ∧ ∀ x k', c[i + 1]? = some (x, k') → fo = k' := ⟨_, gfold_s hg, fun x k' hk => by rw [hk]⟩
    have hX : XP c (gfold c ht c.length).gr (gfold c ht i) (gfold c ht (i + 1)) := by
      rw [es] at hpre ⊢
      refine XP.one l1 (fun z => ?_) (fun z => ?_) hpre
      · have ha : inR a 100 = true := by
          unfold argOK at l2
          rw [if_neg (by omega), if_neg (by omega), if_neg (by omega), if_pos (by omega)] at l2
          exact l2
        refine ⟨ha, ?_⟩
        by_cases h13 : N = 13
        · exact ⟨i, l3 h13⟩
        · exact l4 (by omega)
      · obtain ⟨k', hk⟩ := l5 z
        rw [hfo _ _ hk]
        have q := hL _ _ _ hk
        exact ⟨by have := q.2.1; unfold argOK at this; rw [if_neg (by decide), if_neg (by decide), if_neg (by decide), if_pos (by decide)] at this; exact this, q.2.2.2.1 (by decide)⟩
    obtain ⟨x, e, hx⟩ := hX
    rw [e] at hy
    rcases List.mem_append.mp hy with h1 | h1
    · exact xp_fold hL i (by omega) y h1
    · exact hx y h1
theorem lnp_make {c : Cod} {ht : Nat → Option Nat} (hL : LabC c) : ∀ y, y ∈ (gmake c ht).ls → LnP c (gfold c ht c.length).gr y := by
  have hd : ∀ k, k ≤ (gfold c ht c.length).gr.length → ∀ y, y ∈ (gdat (gfold c ht c.length) k).ls → LnP c (gfold c ht c.length).gr y := by
    intro k
    induction k with
    | zero => intro _ y hy; exact xp_fold hL c.length (Nat.le_refl _) y hy
    | succ k ih =>
      intro hk y hy
      have e : (gdat (gfold c ht c.length) (k + 1)).ls = ((gdat (gfold c ht c.length) k).ls ++ [(14, nI (100 + k))]) ++ [(11, (gfold c ht c.length).gr.getD k 0)] := rfl
      rw [e] at hy
      rcases List.mem_append.mp hy with h1 | h1
      · rcases List.mem_append.mp h1 with h2 | h2
        · exact ih (by omega) y h2
        · rw [List.mem_singleton.mp h2]
          exact ⟨Or.inr (Or.inr rfl), fun _ => Or.inr ⟨k, by omega, rfl⟩, fun z => by cases z⟩
      · rw [List.mem_singleton.mp h1]
        exact ⟨Or.inr (Or.inl rfl), fun z => (by rcases z with z | z <;> cases z), fun z => by cases z⟩
  exact hd _ (Nat.le_refl _)
theorem lnok_make {c : Cod} {ht : Nat → Option Nat} (hL : LabC c) (hT : Typ c ht) (hall : ∀ i, i < c.length → SR c i) (hlen : c.length ≤ 64) : LnOK (gmake c ht).ls := by
  have hI := giv_all hL hT hall hlen c.length (Nat.le_refl _)
  have hG64 : (gfold c ht c.length).gr.length ≤ 64 := (giv_fit hI hlen).2
  have hgrt := grt_make hL hT hall hlen
  have key := lnp_make (ht := ht) hL
  intro y hy
  obtain ⟨k1, k2, -⟩ := key y hy
  refine ⟨k1, fun z => ?_, fun z => ?_⟩
  · rcases k2 z with ⟨h1, -⟩ | ⟨g, h1, h2⟩
    · obtain ⟨j, hj, e, -⟩ := inR_nI h1
      exact ⟨j, by omega, e⟩
    · exact ⟨100 + g, by omega, h2⟩
  · rcases k2 (Or.inr z) with ⟨-, t, h1⟩ | ⟨g, h1, h2⟩
    · obtain ⟨m1, m2⟩ := lab_make hL hT hall hlen h1
      exact ⟨_, m2, m1⟩
    · obtain ⟨p, hp, hl, -⟩ := hgrt g _ (List.getElem?_eq_getElem h1)
      exact ⟨p, hp, by rw [h2]; exact hl⟩
/-- constants that are too great: where their words are -/
theorem d_make {c : Cod} {ht : Nat → Option Nat} (hL : LabC c) (hT : Typ c ht) (hall : ∀ i, i < c.length → SR c i) (hlen : c.length ≤ 64) {p : Nat} {v : Int32} (h : (cmp (gmake c ht).ls)[p]? = some (1, v)) : ∃ x, (cmp (gmake c ht).ls)[v.toNatClampNeg]? = some (11, x) := by
  have h0 := h
  unfold cmp at h
  rw [List.getElem?_map] at h
  cases hn : (nl (gmake c ht).ls)[p]? with
  | none => rw [hn] at h; cases h
  | some y =>
    rw [hn] at h
    obtain ⟨i, w⟩ := y
    have h1 : cmp1 (la (gmake c ht).ls) (i, w) = (1, v) := Option.some.inj h
    have hi : i = 1 := by
      unfold cmp1 at h1
      dsimp only at h1
      split at h1
      · cases h1; rfl
      · cases h1; rfl
    subst hi
    obtain ⟨g, hg, e⟩ := (lnp_make (ht := ht) hL (1, w) (List.mem_filter.mp (List.mem_of_getElem? hn)).1).2.2 rfl
    dsimp only at e
    obtain ⟨q, hq, hl, hP⟩ := grt_make hL hT hall hlen g _ (List.getElem?_eq_getElem hg)
    have hc : cmp1 (la (gmake c ht).ls) (1, w) = (1, nI q) := cmp1_l rfl (by rw [e]; exact hl)
    rw [hc] at h1
    cases h1
    rw [nI_clamp (by omega)]
    exact ⟨_, hP⟩
theorem cmp_lab {ls : Lns} (hok : LnOK ls) {p i : Nat} {v : Int32} (hi : isL i = true) (h : (cmp ls)[p]? = some (i, v)) : ∃ q, q < 4096 ∧ v = nI q := by
  unfold cmp at h
  rw [List.getElem?_map] at h
  cases hn : (nl ls)[p]? with
  | none => rw [hn] at h; cases h
  | some y =>
    rw [hn] at h
    obtain ⟨i', w⟩ := y
    have h' : cmp1 (la ls) (i', w) = (i, v) := Option.some.inj h
    have hi' : i' = i := by
      unfold cmp1 at h'
      dsimp only at h'
      split at h'
      · cases h'; rfl
      · cases h'; rfl
    subst hi'
    obtain ⟨q, hq, hl⟩ := (hok (i', w) (List.mem_filter.mp (List.mem_of_getElem? hn)).1).2.2 hi
    rw [cmp1_l hi hl] at h'
    cases h'
    exact ⟨q, hq, rfl⟩
theorem cmp_lt {ls : Lns} {p : Nat} {x : Nat × Int32} (h : (cmp ls)[p]? = some x) : p < ls.length := by
  have := (List.getElem?_eq_some_iff.mp h).1
  unfold cmp at this
  rw [List.length_map] at this
  have := nl_le ls
  omega
