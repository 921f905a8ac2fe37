/-! Generator, pure: depths all along; it fits -/
def Fr (q q' : GS) : Prop := q'.d = q.d ∧ q'.mo = q.mo ∧ q'.re = q.re ∧ q'.sa = q.sa
theorem Fr.rf (q : GS) : Fr q q := ⟨rfl, rfl, rfl, rfl⟩
theorem Fr.trans {q q' q2 : GS} (h1 : Fr q q') (h2 : Fr q' q2) : Fr q q2 := ⟨h2.1.trans h1.1, h2.2.1.trans h1.2.1, h2.2.2.1.trans h1.2.2.1, h2.2.2.2.trans h1.2.2.2⟩
theorem Fr.line (i : Nat) (v : Int32) (q : GS) : Fr q (gline i v q) := ⟨rfl, rfl, rfl, rfl⟩
theorem Fr.con (v : Int32) (q : GS) : Fr q (gcon v q) := by
  unfold gcon
  split
  · exact ⟨rfl, rfl, rfl, rfl⟩
  · exact ⟨rfl, rfl, rfl, rfl⟩
theorem Fr.load (k : Nat) (q : GS) : Fr q (gload k q) := by
  unfold gload
  split
  · exact Fr.con _ _
  · split
    · exact ⟨rfl, rfl, rfl, rfl⟩
    · split
      · exact ⟨rfl, rfl, rfl, rfl⟩
      · exact Fr.rf q
theorem Fr.keep (k : Nat) (q : GS) : Fr q (gkeep k q) := by
  unfold gkeep
  split
  · exact Fr.rf q
  · exact Fr.load k q
theorem Fr.bth (q : GS) : Fr q (gbth q) := by
  unfold gbth
  split
  · exact Fr.keep _ q
  · exact Fr.rf q
theorem Fr.top (q : GS) : Fr q (gtop q) := by
  unfold gtop
  split
  · exact Fr.bth q
  · exact Fr.rf q
theorem Fr.keepN (q : GS) : ∀ k, Fr q (gkeepN k q)
  | 0 => Fr.rf q
  | k + 1 => (Fr.keepN q k).trans (Fr.keep k _)
theorem Fr.keepAll (q : GS) : Fr q (gkeepAll q) := (Fr.top q).trans (Fr.keepN _ _)
theorem Fr.both (q : GS) : Fr q (gboth q) := ((Fr.bth q).trans (Fr.load _ _)).trans (Fr.load _ _)
theorem Fr.keepBelow (q : GS) : Fr q (gkeepBelow q) := by
  unfold gkeepBelow
  refine Fr.trans ?_ (Fr.keepN _ _)
  split
  · exact Fr.bth q
  · exact Fr.rf q
theorem Fr.keep2 (k : Nat) (q : GS) : Fr q (gkeep2 k q) := by
  unfold gkeep2
  split
  · exact Fr.rf q
  · exact (Fr.bth q).trans (Fr.keep _ _)
theorem Fr.keep2N (q : GS) : ∀ k, Fr q (gkeep2N k q)
  | 0 => Fr.rf q
  | k + 1 => (Fr.keep2N q k).trans (Fr.keep2 k _)
/-- what an instruction leaves of depth, most, reached, same -/
theorem gone_fr (q : GS) (N dl : Nat) (a fo : Int32) (hN : N ≤ 20) : (gone N a fo dl q).d = (if N = 13 then dl else if (N = 11 ∨ N = 12) ∧ q.sa = true then q.d else if N = 16 then q.d - 1 else ((q.d : Int) + gI N).toNat) ∧ (gone N a fo dl q).mo = (if N ≤ 1 then max q.mo (q.d + 1) else if N = 13 then max q.mo dl else q.mo) ∧ (gone N a fo dl q).re = (if N = 10 ∨ N = 16 ∨ N = 17 then false else if N = 13 then true else q.re) ∧ (gone N a fo dl q).sa = (if N = 18 then true else if (N = 11 ∨ N = 12) ∧ q.sa = true then false else q.sa) := by
  have hN' : N = 0 ∨ N = 1 ∨ N = 2 ∨ N = 3 ∨ N = 4 ∨ N = 5 ∨ N = 6 ∨ N = 7 ∨ N = 8 ∨ N = 9 ∨ N = 10 ∨ N = 11 ∨ N = 12 ∨ N = 13 ∨ N = 14 ∨ N = 15 ∨ N = 16 ∨ N = 17 ∨ N = 18 ∨ N = 19 ∨ N = 20 := by omega
  rcases hN' with rfl | rfl | rfl | rfl | rfl | rfl | rfl | rfl | rfl | rfl | rfl | rfl | rfl | rfl | rfl | rfl | rfl | rfl | rfl | rfl | rfl
  · have hg : gI 0 = 1 := by decide
    obtain ⟨f1, f2, f3, f4⟩ := Fr.top q
    refine ⟨?_, ?_, ?_, ?_⟩
    · rw [if_neg (by decide), if_neg (fun z => absurd z.1 (by decide)), if_neg (by decide), hg]
      show (gtop q).d + 1 = _
      omega
    · rw [if_pos (by decide)]
      show max (gtop q).mo ((gtop q).d + 1) = _
      rw [f1, f2]
    · rw [if_neg (by decide), if_neg (by decide)]
      exact f3
    · rw [if_neg (by decide), if_neg (fun z => absurd z.1 (by decide))]
      exact f4
  · have hg : gI 1 = 1 := by decide
    obtain ⟨f1, f2, f3, f4⟩ := Fr.top q
    refine ⟨?_, ?_, ?_, ?_⟩
    · rw [if_neg (by decide), if_neg (fun z => absurd z.1 (by decide)), if_neg (by decide), hg]
      show (gtop q).d + 1 = _
      omega
    · rw [if_pos (by decide)]
      show max (gtop q).mo ((gtop q).d + 1) = _
      rw [f1, f2]
    · rw [if_neg (by decide), if_neg (by decide)]
      exact f3
    · rw [if_neg (by decide), if_neg (fun z => absurd z.1 (by decide))]
      exact f4
  · have hg : gI 2 = -1 := by decide
    obtain ⟨f1, f2, f3, f4⟩ := (Fr.keepBelow q).trans (Fr.load (q.d - 1) _)
    refine ⟨?_, ?_, ?_, ?_⟩
    · rw [if_neg (by decide), if_neg (fun z => absurd z.1 (by decide)), if_neg (by decide), hg]
      show q.d - 1 = _
      omega
    · rw [if_neg (by decide), if_neg (by decide)]
      exact f2
    · rw [if_neg (by decide), if_neg (by decide)]
      exact f3
    · rw [if_neg (by decide), if_neg (fun z => absurd z.1 (by decide))]
      exact f4
  · have hg : gI 3 = 0 := by decide
    obtain ⟨f1, f2, f3, f4⟩ := Fr.load (q.d - 1) q
    refine ⟨?_, ?_, ?_, ?_⟩
    · rw [if_neg (by decide), if_neg (fun z => absurd z.1 (by decide)), if_neg (by decide), hg]
      show (gload (q.d - 1) q).d - 0 = _
      omega
    · rw [if_neg (by decide), if_neg (by decide)]
      exact f2
    · rw [if_neg (by decide), if_neg (by decide)]
      exact f3
    · rw [if_neg (by decide), if_neg (fun z => absurd z.1 (by decide))]
      exact f4
  · have hg : gI 4 = -2 := by decide
    obtain ⟨f1, f2, f3, f4⟩ := (Fr.keep2N q (q.d - 2)).trans (Fr.both _)
    refine ⟨?_, ?_, ?_, ?_⟩
    · rw [if_neg (by decide), if_neg (fun z => absurd z.1 (by decide)), if_neg (by decide), hg]
      show q.d - 2 = _
      omega
    · rw [if_neg (by decide), if_neg (by decide)]
      exact f2
    · rw [if_neg (by decide), if_neg (by decide)]
      exact f3
    · rw [if_neg (by decide), if_neg (fun z => absurd z.1 (by decide))]
      exact f4
  · have hg : gI 5 = 0 := by decide
    obtain ⟨f1, f2, f3, f4⟩ := Fr.load (q.d - 1) q
    refine ⟨?_, ?_, ?_, ?_⟩
    · rw [if_neg (by decide), if_neg (fun z => absurd z.1 (by decide)), if_neg (by decide), hg]
      show (gload (q.d - 1) q).d - 0 = _
      omega
    · rw [if_neg (by decide), if_neg (by decide)]
      exact f2
    · rw [if_neg (by decide), if_neg (by decide)]
      exact f3
    · rw [if_neg (by decide), if_neg (fun z => absurd z.1 (by decide))]
      exact f4
  · have hg : gI 6 = 0 := by decide
    obtain ⟨f1, f2, f3, f4⟩ := Fr.load (q.d - 1) q
    refine ⟨?_, ?_, ?_, ?_⟩
    · rw [if_neg (by decide), if_neg (fun z => absurd z.1 (by decide)), if_neg (by decide), hg]
      show (gload (q.d - 1) q).d - 0 = _
      omega
    · rw [if_neg (by decide), if_neg (by decide)]
      exact f2
    · rw [if_neg (by decide), if_neg (by decide)]
      exact f3
    · rw [if_neg (by decide), if_neg (fun z => absurd z.1 (by decide))]
      exact f4
  · have hg : gI 7 = -1 := by decide
    obtain ⟨f1, f2, f3, f4⟩ := Fr.both q
    refine ⟨?_, ?_, ?_, ?_⟩
    · rw [if_neg (by decide), if_neg (fun z => absurd z.1 (by decide)), if_neg (by decide), hg]
      show (gboth q).d - 1 = _
      omega
    · rw [if_neg (by decide), if_neg (by decide)]
      exact f2
    · rw [if_neg (by decide), if_neg (by decide)]
      exact f3
    · rw [if_neg (by decide), if_neg (fun z => absurd z.1 (by decide))]
      exact f4
  · have hg : gI 8 = -1 := by decide
    obtain ⟨f1, f2, f3, f4⟩ := Fr.both q
    refine ⟨?_, ?_, ?_, ?_⟩
    · rw [if_neg (by decide), if_neg (fun z => absurd z.1 (by decide)), if_neg (by decide), hg]
      show (gboth q).d - 1 = _
      omega
    · rw [if_neg (by decide), if_neg (by decide)]
      exact f2
    · rw [if_neg (by decide), if_neg (by decide)]
      exact f3
    · rw [if_neg (by decide), if_neg (fun z => absurd z.1 (by decide))]
      exact f4
  · have hg : gI 9 = 0 := by decide
    obtain ⟨f1, f2, f3, f4⟩ := Fr.both q
    refine ⟨?_, ?_, ?_, ?_⟩
    · rw [if_neg (by decide), if_neg (fun z => absurd z.1 (by decide)), if_neg (by decide), hg]
      show (gboth q).d = _
      omega
    · rw [if_neg (by decide), if_neg (by decide)]
      exact f2
    · rw [if_neg (by decide), if_neg (by decide)]
      exact f3
    · rw [if_neg (by decide), if_neg (fun z => absurd z.1 (by decide))]
      exact f4
  · have hg : gI 10 = 0 := by decide
    obtain ⟨f1, f2, f3, f4⟩ := Fr.keepAll q
    refine ⟨?_, ?_, ?_, ?_⟩
    · rw [if_neg (by decide), if_neg (fun z => absurd z.1 (by decide)), if_neg (by decide), hg]
      show (gkeepAll q).d = _
      omega
    · rw [if_neg (by decide), if_neg (by decide)]
      exact f2
    · rw [if_pos (by decide)]
      rfl
    · rw [if_neg (by decide), if_neg (fun z => absurd z.1 (by decide))]
      exact f4
  · have hg : gI 11 = -1 := by decide
    have e : gone 11 a fo dl q = (if q.sa = true then gsa false q else gline (if 11 = 12 then 12 else 15) a (gdep (q.d - 1) (gload (q.d - 1) (gkeepAll q)))) := by show ggoes 11 a dl q = _; unfold ggoes; rw [if_neg (by decide), if_neg (by decide)]
    rw [e]
    obtain ⟨f1, f2, f3, f4⟩ := (Fr.keepAll q).trans (Fr.load (q.d - 1) _)
    by_cases hs : q.sa = true
    · rw [if_pos hs]
      refine ⟨?_, ?_, ?_, ?_⟩
      · rw [if_neg (show ¬ 11 = 13 by decide), (if_pos (show ((11 = 11 ∨ 11 = 12) ∧ q.sa = true) from ⟨by decide, hs⟩))]
        rfl
      · rw [if_neg (show ¬ 11 ≤ 1 by decide), if_neg (show ¬ 11 = 13 by decide)]
        rfl
      · rw [if_neg (show ¬ (11 = 10 ∨ 11 = 16 ∨ 11 = 17) by decide), if_neg (show ¬ 11 = 13 by decide)]
        rfl
      · rw [if_neg (show ¬ 11 = 18 by decide), (if_pos (show ((11 = 11 ∨ 11 = 12) ∧ q.sa = true) from ⟨by decide, hs⟩))]
        rfl
    · rw [if_neg hs]
      refine ⟨?_, ?_, ?_, ?_⟩
      · rw [if_neg (show ¬ 11 = 13 by decide), (if_neg (show ¬ ((11 = 11 ∨ 11 = 12) ∧ q.sa = true) from fun z => hs z.2)), if_neg (show ¬ 11 = 16 by decide), hg]
        show q.d - 1 = _; omega
      · rw [if_neg (show ¬ 11 ≤ 1 by decide), if_neg (show ¬ 11 = 13 by decide)]
        exact f2
      · rw [if_neg (show ¬ (11 = 10 ∨ 11 = 16 ∨ 11 = 17) by decide), if_neg (show ¬ 11 = 13 by decide)]
        exact f3
      · rw [if_neg (show ¬ 11 = 18 by decide), (if_neg (show ¬ ((11 = 11 ∨ 11 = 12) ∧ q.sa = true) from fun z => hs z.2))]
        exact f4
  · have hg : gI 12 = -1 := by decide
    have e : gone 12 a fo dl q = (if q.sa = true then gsa false q else gline (if 12 = 12 then 12 else 15) a (gdep (q.d - 1) (gload (q.d - 1) (gkeepAll q)))) := by show ggoes 12 a dl q = _; unfold ggoes; rw [if_neg (by decide), if_neg (by decide)]
    rw [e]
    obtain ⟨f1, f2, f3, f4⟩ := (Fr.keepAll q).trans (Fr.load (q.d - 1) _)
    by_cases hs : q.sa = true
    · rw [if_pos hs]
      refine ⟨?_, ?_, ?_, ?_⟩
      · rw [if_neg (show ¬ 12 = 13 by decide), (if_pos (show ((12 = 11 ∨ 12 = 12) ∧ q.sa = true) from ⟨by decide, hs⟩))]
        rfl
      · rw [if_neg (show ¬ 12 ≤ 1 by decide), if_neg (show ¬ 12 = 13 by decide)]
        rfl
      · rw [if_neg (show ¬ (12 = 10 ∨ 12 = 16 ∨ 12 = 17) by decide), if_neg (show ¬ 12 = 13 by decide)]
        rfl
      · rw [if_neg (show ¬ 12 = 18 by decide), (if_pos (show ((12 = 11 ∨ 12 = 12) ∧ q.sa = true) from ⟨by decide, hs⟩))]
        rfl
    · rw [if_neg hs]
      refine ⟨?_, ?_, ?_, ?_⟩
      · rw [if_neg (show ¬ 12 = 13 by decide), (if_neg (show ¬ ((12 = 11 ∨ 12 = 12) ∧ q.sa = true) from fun z => hs z.2)), if_neg (show ¬ 12 = 16 by decide), hg]
        show q.d - 1 = _; omega
      · rw [if_neg (show ¬ 12 ≤ 1 by decide), if_neg (show ¬ 12 = 13 by decide)]
        exact f2
      · rw [if_neg (show ¬ (12 = 10 ∨ 12 = 16 ∨ 12 = 17) by decide), if_neg (show ¬ 12 = 13 by decide)]
        exact f3
      · rw [if_neg (show ¬ 12 = 18 by decide), (if_neg (show ¬ ((12 = 11 ∨ 12 = 12) ∧ q.sa = true) from fun z => hs z.2))]
        exact f4
  · have hg : gI 13 = 0 := by decide
    have e : Fr q (if q.re = true then gkeepAll q else q) := by
      split
      · exact Fr.keepAll q
      · exact Fr.rf q
    obtain ⟨f1, f2, f3, f4⟩ := e
    refine ⟨by rw [if_pos rfl]; rfl, ?_, by rw [if_neg (by decide), if_pos rfl]; rfl, ?_⟩
    · rw [if_neg (by decide), if_pos rfl]
      show max (if q.re = true then gkeepAll q else q).mo dl = _
      rw [f2]
    · rw [if_neg (by decide), if_neg (fun z => absurd z.1 (by decide))]
      exact f4
  · have hg : gI 14 = -1 := by decide
    obtain ⟨f1, f2, f3, f4⟩ := Fr.rf q
    refine ⟨?_, ?_, ?_, ?_⟩
    · rw [if_neg (by decide), if_neg (fun z => absurd z.1 (by decide)), if_neg (by decide), hg]
      show q.d - 1 = _
      omega
    · rw [if_neg (by decide), if_neg (by decide)]
      exact f2
    · rw [if_neg (by decide), if_neg (by decide)]
      exact f3
    · rw [if_neg (by decide), if_neg (fun z => absurd z.1 (by decide))]
      exact f4
  · have hg : gI 15 = 0 := by decide
    obtain ⟨f1, f2, f3, f4⟩ := Fr.rf q
    refine ⟨?_, ?_, ?_, ?_⟩
    · rw [if_neg (by decide), if_neg (fun z => absurd z.1 (by decide)), if_neg (by decide), hg]
      show q.d = _
      omega
    · rw [if_neg (by decide), if_neg (by decide)]
      exact f2
    · rw [if_neg (by decide), if_neg (by decide)]
      exact f3
    · rw [if_neg (by decide), if_neg (fun z => absurd z.1 (by decide))]
      exact f4
  · have hg : gI 16 = 0 := by decide
    obtain ⟨f1, f2, f3, f4⟩ := Fr.load (q.d - 1) q
    refine ⟨?_, ?_, ?_, ?_⟩
    · rw [if_neg (by decide), if_neg (fun z => absurd z.1 (by decide)), if_pos rfl]
      show q.d - 1 = _
      rfl
    · rw [if_neg (by decide), if_neg (by decide)]
      exact f2
    · rw [if_pos (by decide)]
      rfl
    · rw [if_neg (by decide), if_neg (fun z => absurd z.1 (by decide))]
      exact f4
  · have hg : gI 17 = 0 := by decide
    obtain ⟨f1, f2, f3, f4⟩ := Fr.rf q
    refine ⟨?_, ?_, ?_, ?_⟩
    · rw [if_neg (by decide), if_neg (fun z => absurd z.1 (by decide)), if_neg (by decide), hg]
      show q.d = _
      omega
    · rw [if_neg (by decide), if_neg (by decide)]
      exact f2
    · rw [if_pos (by decide)]
      rfl
    · rw [if_neg (by decide), if_neg (fun z => absurd z.1 (by decide))]
      exact f4
  · have hg : gI 18 = 0 := by decide
    obtain ⟨f1, f2, f3, f4⟩ := ((Fr.keepAll q).trans (Fr.load (q.d - 1) _)).trans (Fr.con a _)
    refine ⟨?_, ?_, ?_, ?_⟩
    · rw [if_neg (by decide), if_neg (fun z => absurd z.1 (by decide)), if_neg (by decide), hg]
      show (gcon a (gload (q.d - 1) (gkeepAll q))).d = _
      omega
    · rw [if_neg (by decide), if_neg (by decide)]
      exact f2
    · rw [if_neg (by decide), if_neg (by decide)]
      exact f3
    · rw [if_pos rfl]
      rfl
  · have hg : gI 19 = -1 := by decide
    obtain ⟨f1, f2, f3, f4⟩ := Fr.both q
    refine ⟨?_, ?_, ?_, ?_⟩
    · rw [if_neg (by decide), if_neg (fun z => absurd z.1 (by decide)), if_neg (by decide), hg]
      show (gboth q).d - 1 = _
      omega
    · rw [if_neg (by decide), if_neg (by decide)]
      exact f2
    · rw [if_neg (by decide), if_neg (by decide)]
      exact f3
    · rw [if_neg (by decide), if_neg (fun z => absurd z.1 (by decide))]
      exact f4
  · have hg : gI 20 = -3 := by decide
    have e : gone 20 a fo dl q = gdep (q.d - 3) (gline 9 8 (gline 5 (nI (q.d - 1)) (gload (q.d - 3) (gline 6 (nI (q.d - 1)) (gline 9 7 (gboth (gkeep2N (q.d - 3) q))))))) := rfl
    have hF : Fr q (gline 9 8 (gline 5 (nI (q.d - 1)) (gload (q.d - 3) (gline 6 (nI (q.d - 1)) (gline 9 7 (gboth (gkeep2N (q.d - 3) q))))))) := ((((((Fr.keep2N q (q.d - 3)).trans (Fr.both _)).trans (Fr.line 9 7 _)).trans (Fr.line 6 _ _)).trans (Fr.load (q.d - 3) _)).trans (Fr.line 5 _ _)).trans (Fr.line 9 8 _)
    rw [e]
    generalize (gline 9 8 (gline 5 (nI (q.d - 1)) (gload (q.d - 3) (gline 6 (nI (q.d - 1)) (gline 9 7 (gboth (gkeep2N (q.d - 3) q))))))) = y at hF ⊢
    obtain ⟨f1, f2, f3, f4⟩ := hF
    refine ⟨?_, ?_, ?_, ?_⟩
    · rw [if_neg (by decide), if_neg (fun z => absurd z.1 (by decide)), if_neg (by decide), hg]
      show q.d - 3 = _
      omega
    · rw [if_neg (by decide), if_neg (by decide)]
      exact f2
    · rw [if_neg (by decide), if_neg (by decide)]
      exact f3
    · rw [if_neg (by decide), if_neg (fun z => absurd z.1 (by decide))]
      exact f4
theorem sr_ht {c : Cod} {ht : Nat → Option Nat} (hL : LabC c) (hT : Typ c ht) {i : Nat} (h : SR c i) : (∃ h, ht i = some h) ∨ (∃ i0 k h, i = i0 + 1 ∧ c[i0]? = some (18, k) ∧ ht i0 = some h) := by
  refine h (fun i => (∃ h, ht i = some h) ∨ (∃ i0 k h, i = i0 + 1 ∧ c[i0]? = some (18, k) ∧ ht i0 = some h)) (Or.inl ⟨0, hT.1⟩) ?_
  rintro i t hp ⟨n, k, hc, hs⟩
  rcases hp with ⟨h, e⟩ | ⟨i0, k0, h, rfl, h18, e⟩
  · by_cases h18 : n = 18
    · rcases hs with ⟨-, -, -, rfl⟩ | ⟨z, -⟩
      · exact Or.inr ⟨i, k, h, rfl, by rw [hc, h18], e⟩
      · omega
    · rcases hs with ⟨a, b, d, rfl⟩ | ⟨z, hl⟩
      · obtain ⟨-, h2, -, e2⟩ := typ_nx hT hc ⟨d, a, b, h18⟩ e
        exact Or.inl ⟨h2, e2⟩
      · obtain ⟨-, h2, -, e2⟩ := typ_jp hT hc z hl e
        exact Or.inl ⟨h2, e2⟩
  · obtain ⟨k', hk⟩ := (hL i0 18 k0 h18).2.2.2.2 rfl
    rw [hk] at hc
    cases hc
    obtain ⟨n', k2, hc', q1, q2, q3⟩ := hT.2 i0 h e
    rcases hs with ⟨a, b, d, rfl⟩ | ⟨z, hl⟩
    · obtain ⟨h2, -, e2⟩ := q3 (i0 + 2) (h + gI 18) ⟨18, k0, h18, Or.inl ⟨by unfold nx0; rw [h18]; rfl, rfl⟩⟩
      exact Or.inl ⟨h2, e2⟩
    · obtain ⟨h2, -, e2⟩ := q3 t (h + gI 18 - (if 18 = 18 then 1 else 0)) ⟨18, k0, h18, Or.inr ⟨by unfold nx1; rw [h18]; dsimp only; rw [if_neg (by decide), if_pos rfl, hk]; exact hl, rfl⟩⟩
      exact Or.inl ⟨h2, e2⟩
theorem sr_lab {c : Cod} (hall : ∀ i, i < c.length → SR c i) {i n : Nat} {k : Int32} (hc : c[i]? = some (n, k)) (hn : n = 10 ∨ n = 16 ∨ n = 17) (hlt : i + 1 < c.length) : ∃ k', c[i + 1]? = some (13, k') := by
  have := hall (i + 1) hlt (fun j => j ≠ i + 1 ∨ ∃ k', c[j]? = some (13, k')) (Or.inl (by omega)) (by
    rintro j t hp ⟨n', k', hc', hs⟩
    rcases hs with ⟨a, b, d, rfl⟩ | ⟨z, hl⟩
    · by_cases e : j = i
      · subst e
        rw [hc] at hc'
        cases hc'
        omega
      · exact Or.inl (by omega)
    · exact Or.inr ⟨_, lbl_ok hl⟩)
  exact this.resolve_left (fun z => z rfl)
def GIv (c : Cod) (ht : Nat → Option Nat) (i : Nat) (q : GS) : Prop := q.d ≤ 60 ∧ q.mo ≤ 60 ∧ q.d ≤ q.mo ∧ pqL q + 17 * pqG q + 29 * pqW q ≤ 50 * i ∧ pqG q + pqW q ≤ i ∧ pqK q + pqW q ≤ i + (if q.sa = true then 1 else 0) ∧
  ((q.re = true ∧ q.sa = false ∧ ht i = some q.d) ∨ (q.re = true ∧ q.sa = true ∧ ∃ i0 k, i = i0 + 1 ∧ c[i0]? = some (18, k) ∧ ht i0 = some q.d) ∨ (q.re = false ∧ q.sa = false ∧ (i < c.length → ∃ k, c[i]? = some (13, k))))
theorem giv_0 {c : Cod} {ht : Nat → Option Nat} (hT : Typ c ht) : GIv c ht 0 gini := ⟨by decide, by decide, by decide, by decide, by decide, by decide, Or.inl ⟨rfl, rfl, hT.1⟩⟩
theorem giv_step {c : Cod} {ht : Nat → Option Nat} (hL : LabC c) (hT : Typ c ht) (hall : ∀ i, i < c.length → SR c i) (hlen : c.length ≤ 64) {i : Nat} {q : GS} {N : Nat} {a fo : Int32} (hc : c[i]? = some (N, a)) (hq : GIv c ht i q) :
    (¬ (10 ≤ N ∧ N ≤ 13) → tI N ≤ (q.d : Int)) ∧ (N ≤ 1 → q.d < 60) ∧ (N = 11 ∨ N = 12 → q.sa = false → 1 ≤ q.d) ∧ (N = 13 → (ht i).getD 0 ≤ 60) ∧ GIv c ht (i + 1) (gone N a fo ((ht i).getD 0) q) := by
  obtain ⟨hd, hmo, hdm, p1, p2, p3, hcase⟩ := hq
  obtain ⟨l1, l2, l3, l4, l5⟩ := hL i N a hc
  have hil := (List.getElem?_eq_some_iff.mp hc).1
  obtain ⟨f1, f2, f3, f4⟩ := gone_fr q N ((ht i).getD 0) a fo l1
  rcases hcase with ⟨hre, hsa, hh⟩ | ⟨hre, hsa, i0, k0, rfl, h18, e⟩ | ⟨hre, hsa, hlab⟩
  · obtain ⟨n', k', hc', q1, q2, q3⟩ := hT.2 i q.d hh
    rw [hc] at hc'
    cases hc'
    have hdl : (ht i).getD 0 = q.d := by rw [hh]; rfl
    have a1 : ¬ (10 ≤ N ∧ N ≤ 13) → tI N ≤ (q.d : Int) := fun _ => q1
    have a2 : N = 11 ∨ N = 12 → q.sa = false → 1 ≤ q.d := fun z _ => by
      have : tI N = 1 := by rcases z with rfl | rfl <;> decide
      omega
    have hnx : N ≠ 10 → N ≠ 16 → N ≠ 17 → N ≠ 18 → ∃ h2 : Nat, (h2 : Int) = q.d + gI N ∧ ht (i + 1) = some h2 ∧ h2 ≤ 60 := fun z1 z2 z3 z4 => by
      obtain ⟨-, h2, e1, e2⟩ := typ_nx hT hc ⟨z1, z2, z3, z4⟩ hh
      obtain ⟨_, _, _, _, z, _⟩ := hT.2 _ _ e2
      exact ⟨h2, e1, e2, z⟩
    have a3 : N ≤ 1 → q.d < 60 := fun z => by
      obtain ⟨h2, e1, e2, e3⟩ := hnx (by omega) (by omega) (by omega) (by omega)
      have : gI N = 1 := by rcases (show N = 0 ∨ N = 1 by omega) with rfl | rfl <;> decide
      omega
    obtain ⟨b1, b2, b3⟩ := ph_one (q := q) (fo := fo) (dl := (ht i).getD 0) l1 l2 a1 a2 hd (by omega)
    refine ⟨a1, a3, a2, fun _ => by omega, ?_⟩
    rw [hsa] at f1 f4 b3 p3
    rw [if_neg (by decide)] at p3
    rw [hre] at f3
    have g0 := gIv
    have g18 : gI 18 = 0 ∧ gI 16 = 0 ∧ gI 17 = 0 := by decide
    have hx : ∀ (P : Prop), ¬ (P ∧ (false : Bool) = true) := fun P z => by cases z.2
    rw [if_neg (hx _)] at f1 f4 b3
    have hdn : N ≠ 16 → (gone N a fo ((ht i).getD 0) q).d = ((q.d : Int) + gI N).toNat := by
      intro z16
      rw [f1]
      split
      · next z => rw [hdl, z, g0.2.2.2.2.2.2.2.2.2.1]; omega
      · first | rfl | rw [if_neg z16]
    have hdn16 : N = 16 → (gone N a fo ((ht i).getD 0) q).d = q.d - 1 := fun z16 => by rw [f1, if_neg (by omega), if_pos z16]
    have hgle : 1 < N → gI N ≤ 0 := by
      intro z
      have : ∀ N, N ≤ 20 → 1 < N → gI N ≤ 0 := by decide
      exact this N l1 z
    have hg1 : N ≤ 1 → gI N = 1 := fun z => by rcases (show N = 0 ∨ N = 1 by omega) with rfl | rfl <;> decide
    have hdn60 : (gone N a fo ((ht i).getD 0) q).d ≤ 60 ∧ (gone N a fo ((ht i).getD 0) q).d ≤ (gone N a fo ((ht i).getD 0) q).mo ∧ (gone N a fo ((ht i).getD 0) q).mo ≤ 60 := by
      rw [f2]
      by_cases z : N ≤ 1
      · have h1 := hdn (by omega)
        rw [hg1 z] at h1
        rw [if_pos z]
        have := a3 z
        omega
      · have hle : (gone N a fo ((ht i).getD 0) q).d ≤ q.d := by
          by_cases z16 : N = 16
          · rw [hdn16 z16]; omega
          · rw [hdn z16]; have := hgle (by omega); omega
        rw [if_neg z]
        split <;> omega
    refine ⟨hdn60.1, hdn60.2.2, hdn60.2.1, by omega, by omega, ?_, ?_⟩
    · rw [f4]
      by_cases z : N = 18
      · rw [if_pos z, if_pos rfl]; rw [if_pos z] at b3; omega
      · rw [if_neg z, if_neg (by decide)]; rw [if_neg z] at b3; omega
    · by_cases z : N = 10 ∨ N = 16 ∨ N = 17
      · refine Or.inr (Or.inr ⟨by rw [f3, if_pos z], by rw [f4, if_neg (by omega)], fun hlt => sr_lab hall hc z hlt⟩)
      · have hre' : (gone N a fo ((ht i).getD 0) q).re = true := by rw [f3, if_neg z]; split <;> rfl
        by_cases z18 : N = 18
        · refine Or.inr (Or.inl ⟨hre', by rw [f4, if_pos z18], i, a, rfl, by rw [hc, z18], ?_⟩)
          rw [hdn (by omega), z18, g18.1, hh]
          congr 1 <;> omega
        · obtain ⟨h2, e1, e2, e3⟩ := hnx (by omega) (by omega) (by omega) z18
          refine Or.inl ⟨hre', by rw [f4, if_neg z18], ?_⟩
          rw [hdn (by omega), e2]
          congr 1 <;> omega
  · obtain ⟨k', hk⟩ := (hL i0 18 k0 h18).2.2.2.2 rfl
    rw [hk] at hc
    cases hc
    rw [hsa] at f1 f4 p3
    rw [if_pos rfl] at p3
    refine ⟨fun z => absurd ⟨by decide, by decide⟩ z, fun z => absurd z (by decide), fun _ z => (by rw [hsa] at z; cases z), fun z => absurd z (by decide), ?_⟩
    have eq1 : gone 12 a fo ((ht (i0 + 1)).getD 0) q = gsa false q := by
      show ggoes 12 a _ q = _
      unfold ggoes
      rw [if_neg (by decide), if_neg (by decide), if_pos hsa]
    rw [eq1]
    refine ⟨hd, hmo, hdm, ?_, ?_, ?_, Or.inl ⟨hre, rfl, ?_⟩⟩
    · rw [pqL_sa, pqG_sa, pqW_sa]; omega
    · rw [pqG_sa, pqW_sa]; omega
    · rw [pqK_sa, pqW_sa]
      show _ ≤ _ + (if false = true then 1 else 0)
      rw [if_neg (by decide)]
      omega
    · obtain ⟨n', k2, hc', q1, q2, q3⟩ := hT.2 i0 q.d e
      obtain ⟨h2, e1, e2⟩ := q3 (i0 + 2) (q.d + gI 18) ⟨18, k0, h18, Or.inl ⟨by unfold nx0; rw [h18]; rfl, rfl⟩⟩
      have g18 : gI 18 = 0 := by decide
      rw [show i0 + 1 + 1 = i0 + 2 by omega, e2]
      show some h2 = some q.d
      congr 1 <;> omega
  · obtain ⟨kl, hkl⟩ := hlab hil
    rw [hkl] at hc
    cases hc
    have hhs : ∃ h, ht i = some h := by
      rcases sr_ht hL hT (hall i hil) with z | ⟨i0, k1, h1, rfl, h18, -⟩
      · exact z
      · obtain ⟨k', hk⟩ := (hL i0 18 k1 h18).2.2.2.2 rfl
        rw [hk] at hkl
        cases hkl
    obtain ⟨h, eh⟩ := hhs
    obtain ⟨-, -, -, -, h60, -⟩ := hT.2 i h eh
    have hdl : (ht i).getD 0 = h := by rw [eh]; rfl
    obtain ⟨b1, b2, b3⟩ := ph_one (q := q) (fo := fo) (dl := (ht i).getD 0) l1 l2 (fun z => absurd ⟨by decide, by decide⟩ z) (fun z => absurd z (by decide)) hd (by omega)
    rw [if_neg (by decide), if_neg (fun z => absurd z.1 (by decide))] at b3
    rw [if_pos rfl] at f1
    rw [if_neg (by decide), if_pos rfl] at f2
    rw [if_neg (by decide), if_pos rfl] at f3
    rw [if_neg (by decide), if_neg (fun z => absurd z.1 (by decide)), hsa] at f4
    rw [hsa, if_neg (by decide)] at p3
    refine ⟨fun z => absurd ⟨by decide, by decide⟩ z, fun z => absurd z (by decide), fun z => absurd z (by decide), fun _ => by omega, ?_⟩
    refine ⟨by omega, by omega, by omega, by omega, by omega, by rw [f4, if_neg (by decide)]; omega, Or.inl ⟨f3, f4, ?_⟩⟩
    obtain ⟨-, h2, e1, e2⟩ := typ_nx hT hkl (by decide) eh
    have g13 : gI 13 = 0 := by decide
    rw [f1, hdl, e2]
    congr 1 <;> omega
theorem giv_all {c : Cod} {ht : Nat → Option Nat} (hL : LabC c) (hT : Typ c ht) (hall : ∀ i, i < c.length → SR c i) (hlen : c.length ≤ 64) : ∀ i, i ≤ c.length → GIv c ht i (gfold c ht i)
  | 0, _ => giv_0 hT
  | i + 1, h => by
    have ih := giv_all hL hT hall hlen i (by omega)
    have hg := List.getElem?_eq_getElem (show i < c.length by omega)
    generalize hx : c[i] = x at hg
    obtain ⟨N, a⟩ := x
    rw [gfold]
    unfold gstep
    rw [hg]
    exact (giv_step hL hT hall hlen hg ih).2.2.2.2
theorem giv_fit {c : Cod} {ht : Nat → Option Nat} {i : Nat} {q : GS} (h : GIv c ht i q) (hi : i ≤ 64) : Fit q := by
  obtain ⟨-, -, -, p1, p2, -⟩ := h
  unfold pqL pqG pqW at *
  exact ⟨by omega, by omega⟩
theorem gok_all {c : Cod} {ht : Nat → Option Nat} (hL : LabC c) (hT : Typ c ht) (hall : ∀ i, i < c.length → SR c i) (hlen : c.length ≤ 64) : GOK c ht := by
  intro i N a hc
  have hil := (List.getElem?_eq_some_iff.mp hc).1
  have hI := giv_all hL hT hall hlen i (by omega)
  obtain ⟨a1, a2, a3, a4, -⟩ := giv_step (fo := 0) hL hT hall hlen hc hI
  exact ⟨(hL i N a hc).1, a1, a2, a3, hI.2.1, a4, giv_fit (giv_all hL hT hall hlen (i + 1) (by omega)) (by omega)⟩
theorem gdat_len (q : GS) (hg : q.gr.length ≤ 64) : ∀ k, k ≤ q.gr.length → pqL (gdat q k) ≤ pqL q + 17 * k ∧ pqK (gdat q k) = pqK q
  | 0, _ => ⟨Nat.le_refl _, rfl⟩
  | k + 1, hk => by
    obtain ⟨h1, h2⟩ := gdat_len q hg k (by omega)
    have hs := sl
    have hb := kl
    have d1 := dec_3 (100 + k) (by omega)
    have d2 := dec_len (q.gr.getD k 0)
    rw [gdat, pqL_line, pqL_line, pqK_line, pqK_line]
    omega
/-- the whole text fits; no more than 64 words wait for labels; at the end nothing is half said -/
theorem fit_make {c : Cod} {ht : Nat → Option Nat} (hL : LabC c) (hT : Typ c ht) (hall : ∀ i, i < c.length → SR c i) (hlen : c.length ≤ 64) : Fit (gmake c ht) ∧ (gmake c ht).mo ≤ 60 ∧ (gmake c ht).sa = false ∧ cL (gmake c ht).ls ≤ 64 ∧ (txt (gmake c ht).ls).length ≤ 3200 := by
  have hI := giv_all hL hT hall hlen c.length (Nat.le_refl _)
  obtain ⟨p0, p1, p2, p3, p4, p5, p6⟩ := hI
  have hf : (gfold c ht c.length).gr.length ≤ 64 := by unfold pqG at p4; omega
  obtain ⟨d1, d2⟩ := gdat_len (gfold c ht c.length) hf _ (Nat.le_refl _)
  have hsa : (gfold c ht c.length).sa = false := by
    rcases p6 with ⟨-, z, -⟩ | ⟨-, -, i0, k, e, h18, -⟩ | ⟨-, z, -⟩
    · exact z
    · obtain ⟨k', hk⟩ := (hL i0 18 k h18).2.2.2.2 rfl
      have := (List.getElem?_eq_some_iff.mp hk).1
      omega
    · exact z
  have hsd : ∀ q k, (gdat q k).sa = q.sa := fun q k => by
    induction k with
    | zero => rfl
    | succ k ih => exact ih
  have hL2 : (txt (gmake c ht).ls).length ≤ 3200 := by
    have : pqL (gmake c ht) ≤ 3200 := by unfold gmake; unfold pqG at p3; omega
    exact this
  refine ⟨⟨by omega, by unfold gmake; rw [gdat_gr]; exact hf⟩, by unfold gmake; rw [gdat_mo]; exact p1, by unfold gmake; rw [hsd]; exact hsa, ?_, hL2⟩
  rw [hsa, if_neg (by decide)] at p5
  have : pqK (gmake c ht) ≤ 64 := by unfold gmake; rw [d2]; omega
  exact this
