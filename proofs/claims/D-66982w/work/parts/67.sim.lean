/-! the lines run as the code does: steps -/
def Pre (F : Lns) (G : List Int32) (q : GS) : Prop := (∃ x, F = q.ls ++ x) ∧ ∃ x, G = q.gr ++ x
def pos (q : GS) : Nat := (nl q.ls).length
def Grt (F : Lns) (G : List Int32) : Prop := ∀ g v, G[g]? = some v → ∃ p, p < 4096 ∧ la F (nI (100 + g)) = some p ∧ (cmp F)[p]? = some (11, v)
theorem Pre.of {F : Lns} {G : List Int32} {q q' : GS} (h : Pre F G q') (e : Ext q q') : Pre F G q := by
  obtain ⟨⟨x, e1⟩, y, e2⟩ := h
  obtain ⟨⟨x', e3, -⟩, y', e4⟩ := e
  exact ⟨⟨x' ++ x, by rw [e1, e3, List.append_assoc]⟩, y' ++ y, by rw [e2, e4, List.append_assoc]⟩
theorem at_line {F : Lns} {G : List Int32} {i : Nat} {v : Int32} {q : GS} (h : Pre F G (gline i v q)) (hi : i ≠ 14) : (cmp F)[pos q]? = some (cmp1 (la F) (i, v)) ∧ pos (gline i v q) = pos q + 1 := by
  obtain ⟨⟨x, e⟩, -⟩ := h
  have e : F = q.ls ++ ((i, v) :: x) := by rw [e]; show (q.ls ++ [(i, v)]) ++ x = _; rw [List.append_assoc]; rfl
  constructor
  · unfold cmp pos
    rw [List.getElem?_map]
    conv => lhs; arg 2; rw [e, nl_app, nl_y hi]
    rw [List.getElem?_append_right (Nat.le_refl _), Nat.sub_self]
    rfl
  · show (nl (q.ls ++ [(i, v)])).length = _
    rw [nl_app, nl_y hi]
    simp [nl, pos]
theorem cmp1_n {f : Int32 → Option Nat} {i : Nat} {v : Int32} (h : isL i = false) : cmp1 f (i, v) = (i, v) := by
  unfold cmp1
  rw [if_neg (by rw [h]; decide)]
theorem cmp1_l {f : Int32 → Option Nat} {i p : Nat} {v : Int32} (h : isL i = true) (hp : f v = some p) : cmp1 f (i, v) = (i, nI p) := by
  unfold cmp1
  rw [if_pos h, hp]
  rfl
-- values
def KU (kf : Nat → Nat × Int32) (val row st : Nat → Int32) (k : Nat) : Prop := ((kf k).1 = 0 ∧ val k = (kf k).2) ∨ ((kf k).1 = 1 ∧ inR (kf k).2 16 = true ∧ val k = st (64 + (kf k).2.toNatClampNeg)) ∨ ((kf k).1 = 4 ∧ row k = val k)
def VU (kf : Nat → Nat × Int32) (val row st : Nat → Int32) (e : Nat) : Prop := ∀ k, k < e → KU kf val row st k
theorem VU.mv {kf kf' : Nat → Nat × Int32} {val val' row row' st st' : Nat → Int32} {e e' : Nat} (h : VU kf val row st e) (he : e' ≤ e) (hk : ∀ k, k < e' → kf' k = kf k) (hv : ∀ k, k < e' → val' k = val k) (hr : ∀ k, k < e' → row' k = row k ∨ row' k = val k) (hs : ∀ j, j < 16 → st' (64 + j) = st (64 + j)) : VU kf' val' row' st' e' := by
  intro k hk'
  unfold KU
  rw [hk k hk', hv k hk']
  rcases h k (by omega) with z | ⟨z1, z2, z3⟩ | ⟨z1, z2⟩
  · exact Or.inl z
  · obtain ⟨j, hj, -, e2⟩ := inR_nI z2
    refine Or.inr (Or.inl ⟨z1, z2, ?_⟩)
    rw [z3, e2, hs j hj]
  · refine Or.inr (Or.inr ⟨z1, ?_⟩)
    rcases hr k hk' with y | y
    · rw [y, z2]
    · exact y
def VR (q : GS) (val : Nat → Int32) (a : Int32) (row st : Nat → Int32) : Prop := VU q.kf val row st q.d ∨ ∃ e, q.d = e + 1 ∧ (q.kf e).1 = 5 ∧ a = val e ∧ VU q.kf val row st e
section SIM
variable {F : Lns} {G : List Int32} {q : GS} {val row st : Nat → Int32} {a b : Int32} {fu : Nat}
theorem s_con {v : Int32} (hG : Grt F G) (h : Pre F G (gcon v q)) (hg : q.gr.length ≤ 90) : Sps (cmp F) (pos q) a b row st fu (pos (gcon v q)) v a row st fu := by
  unfold gcon at h ⊢
  by_cases hs : small v = true
  · rw [if_pos hs] at h ⊢
    obtain ⟨h1, h2⟩ := at_line h (by decide)
    rw [cmp1_n rfl] at h1
    rw [h2]
    exact s_0 h1 hs
  · rw [if_neg hs] at h ⊢
    obtain ⟨h1, h2⟩ := at_line h (by decide)
    obtain ⟨x, e⟩ := (h.of (Ext.line (i := 1) _ _ (by decide)) : Pre F G (gadd v q)).2
    have hgv : G[gidx v q.gr]? = some v := by
      have := gadd_get v q
      rw [e, List.getElem?_append_left (List.getElem?_eq_some_iff.mp this).1]
      exact this
    obtain ⟨p, hp, hl, hP⟩ := hG _ _ hgv
    rw [cmp1_l rfl hl] at h1
    rw [h2]
    have hq : pos (gadd v q) = pos q := rfl
    rw [hq] at h1 ⊢
    exact s_1 h1 (by rw [nI_clamp (by omega)]; exact hP)
theorem s_loadU {k : Nat} (hG : Grt F G) (h : Pre F G (gload k q)) (hg : q.gr.length ≤ 90) (hk : k < 61) (hU : KU q.kf val row st k) : Sps (cmp F) (pos q) a b row st fu (pos (gload k q)) (val k) a row st fu := by
  unfold gload at h ⊢
  rcases hU with ⟨z1, z2⟩ | ⟨z1, z2, z3⟩ | ⟨z1, z2⟩
  · rw [if_pos z1] at h ⊢
    rw [z2]
    exact s_con hG h hg
  · rw [if_neg (by omega), if_pos z1] at h ⊢
    obtain ⟨h1, h2⟩ := at_line h (by decide)
    rw [cmp1_n rfl] at h1
    rw [h2, z3]
    exact s_2 h1 z2
  · rw [if_neg (by omega), if_neg (by omega), if_pos z1] at h ⊢
    obtain ⟨h1, h2⟩ := at_line h (by decide)
    rw [cmp1_n rfl] at h1
    have := s_5 (a := a) (b := b) (row := row) (st := st) (fu := fu) h1 (by unfold inR; rw [nI_toInt (by omega)]; exact decide_eq_true ⟨by omega, by omega⟩)
    rw [nI_clamp (by omega), z2] at this
    rw [h2]
    exact this
theorem s_sq {k : Nat} (h : Pre F G (gline 6 (nI k) q)) (hk : k < 61) : Sps (cmp F) (pos q) a b row st fu (pos (gline 6 (nI k) q)) a b (va_up row k a) st fu := by
  obtain ⟨h1, h2⟩ := at_line h (by decide)
  rw [cmp1_n rfl] at h1
  have := s_6 (a := a) (b := b) (row := row) (st := st) (fu := fu) h1 (by unfold inR; rw [nI_toInt (by omega)]; exact decide_eq_true ⟨by omega, by omega⟩)
  rw [nI_clamp (by omega)] at this
  rw [h2]
  exact this
theorem s_keepU {k : Nat} (hG : Grt F G) (h : Pre F G (gkeep k q)) (hg : q.gr.length ≤ 90) (hk : k < q.d) (hd : q.d ≤ 60) (hV : VU q.kf val row st q.d) : ∃ a' b' row', Sps (cmp F) (pos q) a b row st fu (pos (gkeep k q)) a' b' row' st fu ∧ VU (gkeep k q).kf val row' st q.d := by
  by_cases h4 : (q.kf k).1 = 4
  · have e : gkeep k q = q := by unfold gkeep; rw [if_pos h4]
    rw [e]
    exact ⟨a, b, row, Sps.rf, hV⟩
  · have e : gkeep k q = gset k (4, 0) (gline 6 (nI k) (gload k q)) := by unfold gkeep; rw [if_neg h4]
    rw [e] at h ⊢
    have h' : Pre F G (gline 6 (nI k) (gload k q)) := h
    refine ⟨val k, a, va_up row k (val k), (s_loadU hG (h'.of (Ext.line (i := 6) _ _ (by decide))) hg (by omega) (hV k hk)).trans (s_sq h' (by omega)), ?_⟩
    intro j hj
    have ekf : (gset k (4, 0) (gline 6 (nI k) (gload k q))).kf = va_up q.kf k (4, 0) := by
      show va_up (gload k q).kf k (4, 0) = _
      rw [gload_kf]
    rw [ekf]
    by_cases ej : j = k
    · subst ej
      exact Or.inr (Or.inr ⟨by rw [va_up_self], va_up_self _ _ _⟩)
    · have := hV j hj
      unfold KU at this ⊢
      rw [va_up_ne _ _ ej, va_up_ne _ _ ej]
      exact this
theorem s_bth (hG : Grt F G) (h : Pre F G (gbth q)) (hg : q.gr.length ≤ 90) (hd0 : 0 < q.d) (hd : q.d ≤ 60) (hV : VR q val a row st) : ∃ a' b' row', Sps (cmp F) (pos q) a b row st fu (pos (gbth q)) a' b' row' st fu ∧ VU (gbth q).kf val row' st q.d := by
  rcases hV with hV | ⟨e, he, h5, ha, hV⟩
  · have : gbth q = q := by
      unfold gbth
      rw [if_neg]
      have := hV (q.d - 1) (by omega)
      unfold KU at this
      omega
    rw [this]
    exact ⟨a, b, row, Sps.rf, hV⟩
  · have e1 : gbth q = gset e (4, 0) (gline 6 (nI e) q) := by
      unfold gbth
      rw [he, Nat.add_sub_cancel, if_pos h5]
      unfold gkeep
      rw [if_neg (by omega)]
      unfold gload
      rw [if_neg (by omega), if_neg (by omega), if_neg (by omega)]
    rw [e1] at h ⊢
    have h' : Pre F G (gline 6 (nI e) q) := h
    refine ⟨a, b, va_up row e a, s_sq h' (by omega), ?_⟩
    intro j hj
    show KU (va_up q.kf e (4, 0)) val _ st j
    by_cases ej : j = e
    · subst ej
      exact Or.inr (Or.inr ⟨by rw [va_up_self], by rw [va_up_self, ha]⟩)
    · have := hV j (by omega)
      unfold KU at this ⊢
      rw [va_up_ne _ _ ej, va_up_ne _ _ ej]
      exact this
theorem s_top (hG : Grt F G) (h : Pre F G (gtop q)) (hg : q.gr.length ≤ 90) (hd : q.d ≤ 60) (hV : VR q val a row st) : ∃ a' b' row', Sps (cmp F) (pos q) a b row st fu (pos (gtop q)) a' b' row' st fu ∧ VU (gtop q).kf val row' st q.d := by
  unfold gtop at h ⊢
  by_cases h0 : 0 < q.d
  · rw [if_pos h0] at h ⊢
    exact s_bth hG h hg h0 hd hV
  · rw [if_neg h0] at h ⊢
    exact ⟨a, b, row, Sps.rf, fun k hk => by omega⟩
end SIM
/-- what bounds great constants along the way -/
def Gb (q : GS) : Prop := q.gr.length + wt q.kf q.d ≤ 66
theorem Gb.le {q : GS} (h : Gb q) : pqG q + pqW q ≤ 90 := by unfold Gb at h; unfold pqG pqW; omega
theorem Gb.ph {q q' : GS} {a b c : Nat} (h : pqG q + pqW q ≤ 88) (hp : PhB q q' a b c) (hb : b ≤ 2) : q'.gr.length ≤ 90 := by
  have := hp.2.1
  unfold pqG at *
  omega
section SIM2
variable {F : Lns} {G : List Int32} {q : GS} {val row st : Nat → Int32} {a b : Int32} {fu : Nat}
theorem s_keepN (hG : Grt F G) (hg : pqG q + pqW q ≤ 88) (hd : q.d ≤ 60) (hV : VU q.kf val row st q.d) : ∀ k, k ≤ q.d → Pre F G (gkeepN k q) → ∃ a' b' row', Sps (cmp F) (pos q) a b row st fu (pos (gkeepN k q)) a' b' row' st fu ∧ VU (gkeepN k q).kf val row' st q.d ∧ ∀ j, j < k → ((gkeepN k q).kf j).1 = 4
  | 0, _, _ => ⟨a, b, row, Sps.rf, hV, fun j hj => by omega⟩
  | k + 1, hk, h => by
    have h' : Pre F G (gkeep k (gkeepN k q)) := h
    obtain ⟨a1, b1, row1, s1, v1, k1⟩ := s_keepN hG hg hd hV k (by omega) (h'.of (Ext.keep _ _))
    have hgl : (gkeepN k q).gr.length ≤ 90 := Gb.ph hg (ph_keepN hd (by omega) k (by omega)) (by omega)
    obtain ⟨a2, b2, row2, s2, v2⟩ := s_keepU (q := gkeepN k q) (k := k) (a := a1) (b := b1) (fu := fu) hG h' hgl (by rw [gkeepN_d]; omega) (by rw [gkeepN_d]; exact hd) (by rw [gkeepN_d]; exact v1)
    rw [gkeepN_d] at v2
    refine ⟨a2, b2, row2, s1.trans s2, v2, fun j hj => ?_⟩
    show ((gkeep k (gkeepN k q)).kf j).1 = 4
    rw [gkeep_kf]
    by_cases e : j = k
    · rw [if_pos e]
      split
      · next z => exact z
      · rfl
    · rw [if_neg e]
      exact k1 j (by omega)
theorem s_keepAll (hG : Grt F G) (h : Pre F G (gkeepAll q)) (hg : pqG q + pqW q ≤ 88) (hd : q.d ≤ 60) (hV : VR q val a row st) : ∃ a' b' row', Sps (cmp F) (pos q) a b row st fu (pos (gkeepAll q)) a' b' row' st fu ∧ (∀ j, j < q.d → ((gkeepAll q).kf j).1 = 4 ∧ row' j = val j) := by
  unfold gkeepAll at h ⊢
  have hp := ph_top hd (by omega : pqG q ≤ 90)
  obtain ⟨a1, b1, row1, s1, v1⟩ := s_top (b := b) (fu := fu) hG (h.of (Ext.keepN _ _)) (Gb.ph (q := q) (q' := q) hg (PhB.rf q) (by omega)) hd hV
  obtain ⟨a2, b2, row2, s2, v2, k2⟩ := s_keepN (q := gtop q) (a := a1) (b := b1) (fu := fu) hG (by have := hp.2.1; omega) (by rw [gtop_d]; exact hd) (by rw [gtop_d]; exact v1) q.d (by rw [gtop_d]; exact Nat.le_refl _) h
  rw [gtop_d] at v2
  refine ⟨a2, b2, row2, s1.trans s2, fun j hj => ⟨k2 j hj, ?_⟩⟩
  have := v2 j hj
  have h4 := k2 j hj
  unfold KU at this
  rcases this with ⟨z, -⟩ | ⟨z, -⟩ | ⟨-, z⟩
  · omega
  · omega
  · exact z
theorem s_keepBelow {e : Nat} (hG : Grt F G) (he : q.d = e + 1) (h : Pre F G (gkeepBelow q)) (hg : pqG q + pqW q ≤ 88) (hd : q.d ≤ 60) (hV : VR q val a row st) : ∃ a' b' row', Sps (cmp F) (pos q) a b row st fu (pos (gkeepBelow q)) a' b' row' st fu ∧ VR (gkeepBelow q) val a' row' st ∧ ∀ j, j < e → ((gkeepBelow q).kf j).1 = 4 := by
  unfold gkeepBelow at h ⊢
  by_cases h1 : 1 < q.d
  · rw [if_pos h1] at h ⊢
    have hp := ph_bth (by omega) hd (by omega : pqG q ≤ 90)
    obtain ⟨a1, b1, row1, s1, v1⟩ := s_bth (b := b) (fu := fu) hG (h.of (Ext.keepN _ _)) (Gb.ph (q := q) (q' := q) hg (PhB.rf q) (by omega)) (by omega) hd hV
    obtain ⟨a2, b2, row2, s2, v2, k2⟩ := s_keepN (q := gbth q) (a := a1) (b := b1) (fu := fu) hG (by have := hp.2.1; omega) (by rw [gbth_d]; exact hd) (by rw [gbth_d]; exact v1) (q.d - 1) (by rw [gbth_d]; omega) h
    exact ⟨a2, b2, row2, s1.trans s2, Or.inl (by rw [gkeepN_d]; exact v2), fun j hj => k2 j (by omega)⟩
  · rw [if_neg h1] at h ⊢
    have e0 : q.d - 1 = 0 := by omega
    rw [e0] at h ⊢
    exact ⟨a, b, row, Sps.rf, hV, fun j hj => by omega⟩
theorem s_keep2N (hG : Grt F G) (hg : pqG q + pqW q ≤ 88) (hd : q.d ≤ 60) (hV : VR q val a row st) : ∀ k, k ≤ q.d → Pre F G (gkeep2N k q) → ∃ a' b' row', Sps (cmp F) (pos q) a b row st fu (pos (gkeep2N k q)) a' b' row' st fu ∧ VR (gkeep2N k q) val a' row' st
  | 0, _, _ => ⟨a, b, row, Sps.rf, hV⟩
  | k + 1, hk, h => by
    have h' : Pre F G (gkeep2 k (gkeep2N k q)) := h
    obtain ⟨a1, b1, row1, s1, v1⟩ := s_keep2N hG hg hd hV k (by omega) (h'.of (Ext.keep2 _ _))
    have hp1 := ph_keep2N hd (by omega : pqG q + pqW q ≤ 90) k (by omega)
    have hg1 : pqG (gkeep2N k q) + pqW (gkeep2N k q) ≤ 88 := by have := hp1.2.1; omega
    rw [show gkeep2N (k + 1) q = gkeep2 k (gkeep2N k q) from rfl]
    have hkd : (gkeep2N k q).d = q.d := gkeep2N_d _ _
    generalize gkeep2N k q = q1 at *
    unfold gkeep2 at h' ⊢
    by_cases h4 : (q1.kf k).1 = 4
    · rw [if_pos h4] at h' ⊢
      exact ⟨a1, b1, row1, s1, v1⟩
    · rw [if_neg h4] at h' ⊢
      have hp := ph_bth (q := q1) (by omega) (by omega) (by omega)
      obtain ⟨a2, b2, row2, s2, v2⟩ := s_bth (b := b1) (fu := fu) hG (h'.of (Ext.keep _ _)) (Gb.ph (q := q1) (q' := q1) hg1 (PhB.rf q1) (by omega)) (by omega) (by omega) v1
      obtain ⟨a3, b3, row3, s3, v3⟩ := s_keepU (q := gbth q1) (k := k) (a := a2) (b := b2) (fu := fu) hG h' (Gb.ph hg1 hp (by omega)) (by rw [gbth_d]; omega) (by rw [gbth_d]; omega) (by rw [gbth_d]; exact v2)
      exact ⟨a3, b3, row3, (s1.trans s2).trans s3, Or.inl (by rw [gkeep_d]; exact v3)⟩
theorem s_ldtop {e : Nat} (hG : Grt F G) (he : q.d = e + 1) (h : Pre F G (gload e q)) (hg : q.gr.length ≤ 90) (hd : q.d ≤ 60) (hV : VR q val a row st) : ∃ b', Sps (cmp F) (pos q) a b row st fu (pos (gload e q)) (val e) b' row st fu ∧ VU q.kf val row st e := by
  rcases hV with hV | ⟨e', he', h5, ha, hV⟩
  · exact ⟨a, s_loadU hG h hg (by omega) (hV e (by omega)), fun k hk => hV k (by omega)⟩
  · have : e' = e := by omega
    subst this
    have e1 : gload e' q = q := by
      unfold gload
      rw [if_neg (by omega), if_neg (by omega), if_neg (by omega)]
    rw [e1, ← ha]
    exact ⟨b, Sps.rf, hV⟩
theorem s_both {e : Nat} (hG : Grt F G) (he : q.d = e + 2) (h : Pre F G (gboth q)) (hg : pqG q + pqW q ≤ 88) (hd : q.d ≤ 60) (hV : VR q val a row st) : ∃ row', Sps (cmp F) (pos q) a b row st fu (pos (gboth q)) (val (e + 1)) (val e) row' st fu ∧ VU (gboth q).kf val row' st (e + 2) := by
  have ekf : (gboth q).kf = (gbth q).kf := by unfold gboth; rw [gload_kf, gload_kf]
  rw [ekf]
  unfold gboth at h ⊢
  have hp := ph_bth (q := q) (by omega) hd (by omega)
  have h1 := h.of (Ext.load _ _)
  obtain ⟨a1, b1, row1, s1, v1⟩ := s_bth (b := b) (fu := fu) hG (h1.of (Ext.load _ _)) (Gb.ph (q := q) (q' := q) hg (PhB.rf q) (by omega)) (by omega) hd hV
  have hgl := Gb.ph hg hp (by omega)
  have hgl2 : (gload (q.d - 2) (gbth q)).gr.length ≤ 90 := by
    have := (ld (q.d - 2) (gbth q) (by omega) hgl).2.1
    have n1 := nk_le (gbth q) (q.d - 2)
    have := hp.2.1
    unfold pqG at *
    omega
  have s2 := s_loadU (q := gbth q) (k := q.d - 2) (a := a1) (b := b1) (fu := fu) hG h1 hgl (by omega) (v1 _ (by omega))
  have s3 := s_loadU (q := gload (q.d - 2) (gbth q)) (k := q.d - 1) (val := val) (row := row1) (st := st) (a := val (q.d - 2)) (b := a1) (fu := fu) hG h hgl2 (by omega) (by rw [gload_kf]; exact v1 _ (by omega))
  refine ⟨row1, ?_, fun k hk => v1 k (by omega)⟩
  have e1 : q.d - 1 = e + 1 := by omega
  have e2 : q.d - 2 = e := by omega
  rw [e1, e2] at s3
  rw [e2] at s2
  rw [e1, e2]
  exact (s1.trans s2).trans s3
theorem s_X {v : Int32} {x : Nat} {a' : Int32} {st' : Nat → Int32} {fu' : Nat} (h : Pre F G (gline 9 v q)) (hv : v = nI x) (hx : x < 100) (hm : mX x a b st fu = some (0, a', st', fu')) : Sps (cmp F) (pos q) a b row st fu (pos (gline 9 v q)) a' b row st' fu' := by
  obtain ⟨h1, h2⟩ := at_line h (by decide)
  rw [cmp1_n rfl] at h1
  rw [h2]
  exact s_9 h1 (by rw [hv, nI_clamp (by omega)]) hm
theorem e_X {v : Int32} {x e : Nat} {a' : Int32} {st' : Nat → Int32} {fu' : Nat} (h : Pre F G (gline 9 v q)) (hv : v = nI x) (hx : x < 100) (hm : mX x a b st fu = some (e + 1, a', st', fu')) : mrun (cmp F) 1 (pos q) a b row st fu = some (e, (if e + 1 = 1 then a' else 0), st', fu') := by
  obtain ⟨h1, h2⟩ := at_line h (by decide)
  rw [cmp1_n rfl] at h1
  exact e_9 h1 (by rw [hv, nI_clamp (by omega)]) hm
end SIM2
