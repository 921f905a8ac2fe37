/-! the lines run as the code does: a run -/
section RUN
variable {c : Cod} {ht : Nat → Option Nat}
theorem jmp_at {F : Lns} {G : List Int32} {q : GS} {i p : Nat} {v : Int32} (h : Pre F G (gline i v q)) (hi : isL i = true) (hp : la F v = some p) : (cmp F)[pos q]? = some (i, nI p) ∧ pos (gline i v q) = pos q + 1 := by
  have h14 : i ≠ 14 := fun z => by rw [z] at hi; cases hi
  obtain ⟨h1, h2⟩ := at_line h h14
  rw [cmp1_l hi hp] at h1
  exact ⟨h1, h2⟩
theorem EndM.back {F : Lns} {p p' : Nat} {a b a' b' : Int32} {row st row' st' : Nat → Int32} {fu fu' how fu2 : Nat} {v : Int32} {loc wrd : Nat → Int32} (hs : Sps (cmp F) p a b row st fu p' a' b' row' st' fu') (h : EndM F p' a' b' row' st' fu' how v loc wrd fu2) : EndM F p a b row st fu how v loc wrd fu2 := by
  obtain ⟨N, st2, hN, hR⟩ := h
  obtain ⟨N', hN'⟩ := hs N _ hN
  exact ⟨N', st2, hN', hR⟩
theorem sim (hL : LabC c) (hT : Typ c ht) (hall : ∀ i, i < c.length → SR c i) (hlen : c.length ≤ 64) : ∀ N i σ loc wrd fu r, crun c N i σ loc wrd fu = some r → ∀ val a b row st, (gfold c ht i).re = true → (gfold c ht i).sa = false → ht i = some σ.length → VR (gfold c ht i) val a row st → RowIs val σ → RelS st loc wrd → EndM (gmake c ht).ls (pos (gfold c ht i)) a b row st fu r.1 r.2.1 r.2.2.1 r.2.2.2.1 r.2.2.2.2 := by
  have hG := grt_make hL hT hall hlen
  intro N
  induction N using Nat.strongRecOn with
  | _ N ih =>
    intro i σ loc wrd fu r h val a b row st hre hsa hh hV hR hS
    have hi : i < c.length := by
      apply Classical.byContradiction
      intro z
      rw [crun_none (List.getElem?_eq_none (by omega))] at h
      cases h
    have hc := List.getElem?_eq_getElem hi
    generalize hxx : c[i] = xx at hc
    obtain ⟨n, k⟩ := xx
    have hI := giv_all hL hT hall hlen i (by omega)
    have hI1 := giv_all hL hT hall hlen (i + 1) (by omega)
    obtain ⟨l1, l2, l3, l4, l5⟩ := hL i n k hc
    have hd : (gfold c ht i).d = σ.length := by
      rcases hI.2.2.2.2.2.2 with ⟨-, -, z⟩ | ⟨-, z, -⟩ | ⟨z, -⟩
      · rw [hh] at z; exact (Option.some.inj z).symm
      · rw [hsa] at z; cases z
      · rw [hre] at z; cases z
    have hd60 : (gfold c ht i).d ≤ 60 := hI.1
    have hgw : pqG (gfold c ht i) + pqW (gfold c ht i) ≤ 88 := by have := hI.2.2.2.2.1; omega
    have hpre := pre_fold (ht := ht) hL (show i + 1 ≤ c.length by omega)
    obtain ⟨fo, es, hfo⟩ : ∃ fo, gfold c ht (i + 1) = gone n k fo ((ht i).getD 0) (gfold c ht i) ∧ ∀ x k', c[i + 1]? = some (x, k') → fo = k' := ⟨_, gfold_s hc, fun x k' hk => by rw [hk]⟩
    obtain ⟨f1, f2, f3, f4⟩ := gone_fr (gfold c ht i) n ((ht i).getD 0) k fo l1
    rw [← es, hre] at f3
    rw [← es, hsa] at f4
    have hx : ∀ (P : Prop), ¬ (P ∧ (false : Bool) = true) := fun P z => by cases z.2
    rw [if_neg (hx _)] at f4
    have hg18 : gI 18 = 0 ∧ gI 15 = 0 := by decide
    -- going on behind it
    have cont : ∀ {N1 fu' σ' loc' wrd'}, N1 < N → n ≠ 10 → n ≠ 16 → n ≠ 17 → n ≠ 18 → crun c N1 (i + 1) σ' loc' wrd' fu' = some r → (σ'.length : Int) = σ.length + gI n → Good (gmake c ht).ls (gfold c ht (i + 1)) σ' loc' wrd' (pos (gfold c ht i)) a b row st fu fu' → EndM (gmake c ht).ls (pos (gfold c ht i)) a b row st fu r.1 r.2.1 r.2.2.1 r.2.2.2.1 r.2.2.2.2 := by
      intro N1 fu' σ' loc' wrd' hN z1 z2 z3 z4 hr hlen' hgood
      obtain ⟨a', b', row', st', val', hs, hv', hr', hS'⟩ := hgood
      obtain ⟨-, h2, e1, e2⟩ := typ_nx hT hc ⟨z1, z2, z3, z4⟩ hh
      refine EndM.back hs (ih N1 hN (i + 1) σ' loc' wrd' fu' r hr val' a' b' row' st' ?_ ?_ ?_ hv' hr' hS')
      · rw [f3, if_neg (by omega)]; split <;> rfl
      · rw [f4, if_neg z4]
      · rw [e2]; congr 1; omega
    -- a label that is gone to
    have land : ∀ {N1 t σ' k' val' a' b' row' st'}, N1 < N → lbl c k' = some t → crun c N1 t σ' loc wrd fu = some r → ht t = some σ'.length → RowIs val' σ' → (∀ j, j < σ'.length → row' j = val' j) → RelS st' loc wrd → EndM (gmake c ht).ls (pos (gfold c ht (t + 1))) a' b' row' st' fu r.1 r.2.1 r.2.2.1 r.2.2.2.1 r.2.2.2.2 := by
      intro N1 t σ' k' val' a' b' row' st' hN hlb hr hht hR' hrow hS'
      have hct := lbl_ok hlb
      have htl := lbl_lt hlb
      obtain ⟨N2, rfl, -, ev, σ2, loc2, wrd2, hm, h0, h1⟩ := crun_q hct ⟨by decide, by decide, by decide, by decide, by decide, by decide, by decide⟩ hr
      cases hm
      obtain ⟨-, h2, e1, e2⟩ := typ_nx hT hct (by decide) hht
      have g13 : gI 13 = 0 := by decide
      have est := gfold_s (ht := ht) hct
      have hsat : (gfold c ht t).sa = false := by
        have hIt := giv_all hL hT hall hlen t (by omega)
        rcases hIt.2.2.2.2.2.2 with ⟨-, z, -⟩ | ⟨-, -, i0, k0, rfl, h18, -⟩ | ⟨-, z, -⟩
        · exact z
        · obtain ⟨k2, hk2⟩ := (hL i0 18 k0 h18).2.2.2.2 rfl
          rw [hk2] at hct
          cases hct
        · exact z
      refine ih N2 (by omega) (t + 1) σ' loc wrd fu r (h0 rfl) val' a' b' row' st' ?_ ?_ ?_ ?_ hR' hS'
      · rw [est, gone13]; rfl
      · rw [est, (gone_fr _ 13 _ _ _ (by decide)).2.2.2, if_neg (by decide), if_neg (fun z => absurd z.1 (by decide))]; exact hsat
      · rw [e2]; congr 1; omega
      · have ekf : (gfold c ht (t + 1)).kf = fun _ => (4, 0) := by rw [est, gone13]; rfl
        have ed : (gfold c ht (t + 1)).d = σ'.length := by
          rw [est, gone13]
          show (ht t).getD 0 = _
          rw [hht]
          rfl
        refine Or.inl ?_
        rw [ekf, ed]
        exact fun j hj => Or.inr (Or.inr ⟨rfl, hrow j hj⟩)
    obtain ⟨n', k', hc', q1, q2, q3⟩ := hT.2 i _ hh
    rw [hc] at hc'
    cases hc'
    by_cases hp : PlainN n
    · obtain ⟨N1, rfl, hl, ev, σ', loc', wrd', hm, h0, h1⟩ := crun_q hc hp h
      obtain ⟨e, he, hlen'⟩ := mdo_ok (loc := loc) (wrd := wrd) l1 l2 q1 (by omega)
      rw [hm] at he
      cases he
      dsimp only at hlen'
      have hp' := hp
      obtain ⟨z10, z11, z12, z15, z16, z17, z18⟩ := hp'
      by_cases h13 : n = 13
      · subst h13
        cases hm
        rw [gone13, if_pos hre] at es
        have hpk : Pre (gmake c ht).ls (gfold c ht c.length).gr (gkeepAll (gfold c ht i)) := by
          obtain ⟨⟨x, e⟩, y, e2⟩ := hpre
          rw [es] at e e2
          exact ⟨⟨[(14, k)] ++ x, by rw [e]; show ((gkeepAll (gfold c ht i)).ls ++ [(14, k)]) ++ x = _; rw [List.append_assoc]⟩, y, e2⟩
        obtain ⟨a1, b1, row1, s1, k1⟩ := s_keepAll (b := b) (fu := fu) hG hpk hgw hd60 hV
        have hpos : pos (gfold c ht (i + 1)) = pos (gkeepAll (gfold c ht i)) := by
          rw [es]
          unfold pos
          show (nl ((gkeepAll (gfold c ht i)).ls ++ [(14, k)])).length = _
          rw [nl_app, nl_n]
          simp [nl]
        have ekf : (gfold c ht (i + 1)).kf = fun _ => (4, 0) := by rw [es]; rfl
        have ed : (gfold c ht (i + 1)).d = σ.length := by
          rw [es]
          show (ht i).getD 0 = _
          rw [hh]
          rfl
        have hl' := hlen' rfl
        rw [if_neg (by decide)] at hl'
        refine cont (by omega) z10 z16 z17 z18 (h0 rfl) hl' ⟨a1, b1, row1, st, val, by rw [hpos]; exact s1, Or.inl ?_, hR, hS⟩
        rw [ekf, ed]
        exact fun j hj => Or.inr (Or.inr ⟨rfl, (k1 j (by omega)).2⟩)
      · have hpre' := hpre
        rw [es] at hpre'
        obtain ⟨g1, g2⟩ := i_plain (b := b) (fu := fu) hG hp l1 h13 hpre' hgw hd60 hd hV hR hS hm
        rcases Nat.eq_zero_or_pos ev with z | z
        · have hgood := g1 z
          rw [← es] at hgood
          have hl' := hlen' z
          rw [if_neg (by omega)] at hl'
          exact cont (by omega) z10 z16 z17 z18 (h0 z) hl' hgood
        · rw [h1 z]
          exact g2 z
    · have hcase : n = 10 ∨ (n = 11 ∨ n = 12) ∨ n = 15 ∨ n = 16 ∨ n = 17 ∨ n = 18 := by unfold PlainN at hp; omega
      have hgk : pqG (gkeepAll (gfold c ht i)) + pqW (gkeepAll (gfold c ht i)) ≤ 88 := by have := (ph_keepAll hd60 (by omega : pqG (gfold c ht i) + pqW (gfold c ht i) ≤ 90)).2.1; omega
      rcases hcase with rfl | hn | rfl | rfl | rfl | rfl
      · obtain ⟨N1, t, rfl, hl, et, hr⟩ := run_j hc h
        have h' : Pre (gmake c ht).ls (gfold c ht c.length).gr (gline 13 k (gkeepAll (gfold c ht i))) := by rw [es] at hpre; exact hpre
        obtain ⟨a1, b1, row1, s1, k1⟩ := s_keepAll (b := b) (fu := fu) hG (h'.of (Ext.line (i := 13) _ _ (by decide))) hgw hd60 hV
        obtain ⟨m1, m2⟩ := lab_make hL hT hall hlen et
        obtain ⟨p1, p2⟩ := jmp_at h' rfl m1
        have s2 := s_13 (a := a1) (b := b1) (row := row1) (st := st) (fu := fu) p1
        rw [nI_clamp (by omega)] at s2
        obtain ⟨-, h2, e1, e2⟩ := typ_jp hT hc (Or.inl rfl) et hh
        have g10 : gI 10 = 0 := by decide
        exact EndM.back (s1.trans s2) (land (by omega) et hr (by rw [e2]; congr 1; omega) hR (fun j hj => (k1 j (by omega)).2) hS)
      · have ht1 : tI n = 1 ∧ gI n = -1 := by rcases hn with rfl | rfl <;> decide
        rw [ht1.1] at q1
        obtain ⟨v, s, rfl⟩ := len1 q1
        obtain ⟨N1, rfl, hj, hnj⟩ := run_b hn hc h
        have he : (gfold c ht i).d = s.length + 1 := hd
        have es' : gfold c ht (i + 1) = gline (if n = 12 then 12 else 15) k (gdep ((gfold c ht i).d - 1) (gload ((gfold c ht i).d - 1) (gkeepAll (gfold c ht i)))) := by
          rw [es]
          have : ∀ fo dl, gone n k fo dl (gfold c ht i) = ggoes n k dl (gfold c ht i) := by rcases hn with rfl | rfl <;> exact fun _ _ => rfl
          rw [this]
          unfold ggoes
          rw [if_neg (by omega), if_neg (by omega), if_neg (by rw [hsa]; decide)]
        have h' : Pre (gmake c ht).ls (gfold c ht c.length).gr (gline (if n = 12 then 12 else 15) k (gload s.length (gkeepAll (gfold c ht i)))) := by
          rw [es', show (gfold c ht i).d - 1 = s.length by omega] at hpre
          exact hpre
        have h14 : (if n = 12 then 12 else 15) ≠ 14 := by split <;> decide
        have h1 := h'.of (Ext.line _ _ h14)
        obtain ⟨a1, b1, row1, s1, k1⟩ := s_keepAll (b := b) (fu := fu) hG (h1.of (Ext.load _ _)) hgw hd60 hV
        have s2 := s_loadU (q := gkeepAll (gfold c ht i)) (k := s.length) (val := val) (row := row1) (st := st) (a := a1) (b := b1) (fu := fu) hG h1 (by unfold pqG at hgk; omega) (by omega) (Or.inr (Or.inr (k1 s.length (by omega))))
        rw [hR.1] at s2
        obtain ⟨t, et⟩ := l4 (Or.inr hn)
        obtain ⟨m1, m2⟩ := lab_make hL hT hall hlen et
        obtain ⟨p1, p2⟩ := jmp_at h' (by rcases hn with rfl | rfl <;> rfl) m1
        have hpos : pos (gfold c ht (i + 1)) = pos (gload s.length (gkeepAll (gfold c ht i))) + 1 := by
          rw [← p2, es', show (gfold c ht i).d - 1 = s.length by omega]
          rfl
        have s3 : Sps (cmp (gmake c ht).ls) (pos (gload s.length (gkeepAll (gfold c ht i)))) v a1 row1 st fu (if (v = 0 ↔ n = 11) then pos (gfold c ht (t + 1)) else pos (gfold c ht (i + 1))) v a1 row1 st fu := by
          rcases hn with rfl | rfl
          · have s3 := s_15 (a := v) (b := a1) (row := row1) (st := st) (fu := fu) p1
            rw [nI_clamp (by omega), ← hpos] at s3
            by_cases z : v = 0
            · rw [if_pos z] at s3; rw [if_pos ⟨fun _ => rfl, fun _ => z⟩]; exact s3
            · rw [if_neg z] at s3; rw [if_neg (fun y => z (y.mpr rfl))]; exact s3
          · have s3 := s_12 (a := v) (b := a1) (row := row1) (st := st) (fu := fu) p1
            rw [nI_clamp (by omega), ← hpos] at s3
            by_cases z : v = 0
            · rw [if_pos z] at s3; rw [if_neg (fun y => absurd (y.mp z) (by decide))]; exact s3
            · rw [if_neg z] at s3; rw [if_pos ⟨fun y => absurd y z, fun y => absurd y (by decide)⟩]; exact s3
        by_cases hv : (v = 0 ↔ n = 11)
        · rw [if_pos hv] at s3
          obtain ⟨t2, et2, hr⟩ := hj hv
          rw [et] at et2
          cases et2
          obtain ⟨-, h2, e1, e2⟩ := typ_jp hT hc (Or.inr hn) et hh
          exact EndM.back ((s1.trans s2).trans s3) (land (by omega) et hr (by rw [e2]; congr 1; simp only [List.length_cons] at e1; omega) hR.2 (fun j hj => (k1 j (by omega)).2) hS)
        · rw [if_neg hv] at s3
          refine cont (by omega) (by omega) (by omega) (by omega) (by omega) (hnj hv) (by rw [ht1.2]; simp only [List.length_cons]; omega) ⟨v, a1, row1, st, val, (s1.trans s2).trans s3, Or.inl ?_, hR.2, hS⟩
          have ekf : (gfold c ht (i + 1)).kf = (gkeepAll (gfold c ht i)).kf := by
            rw [es']
            show (gload ((gfold c ht i).d - 1) (gkeepAll (gfold c ht i))).kf = _
            rw [gload_kf]
          have ed : (gfold c ht (i + 1)).d = s.length := by
            rw [es']
            show (gfold c ht i).d - 1 = _
            omega
          rw [ekf, ed]
          exact fun j hj => Or.inr (Or.inr (k1 j (by omega)))
      · obtain ⟨N1, rfl, hl⟩ := crun_l h
        have h' : Pre (gmake c ht).ls (gfold c ht c.length).gr (gline 9 9 (gfold c ht i)) := by rw [es] at hpre; exact hpre
        rw [crun_s hc hl, if_neg (by decide), if_neg (by decide)] at h
        by_cases hf : fu = 0
        · rw [if_pos ⟨rfl, hf⟩] at h
          cases h
          have := e_X (x := 9) (v := 9) (e := 1) (a := a) (b := b) (row := row) (st := st) (fu := fu) h' rfl (by omega) (by unfold mX; rw [if_neg (by decide), if_neg (by decide), if_neg (by decide), if_neg (by decide), if_neg (by decide), if_neg (by decide), if_neg (by decide), if_neg (by decide), if_pos rfl, if_neg (by omega)])
          exact ⟨1, st, this, hS⟩
        · rw [if_neg (fun z => hf z.2), show mdo 15 k σ loc wrd = some (0, σ, loc, wrd) from rfl] at h
          dsimp only at h
          rw [if_neg (by decide)] at h
          have hcg : cgo c i 15 k σ = some (i + 1, σ) := by unfold cgo; rw [if_neg (by decide), if_neg (by decide), if_neg (by decide)]
          rw [hcg, if_pos rfl] at h
          have s1 := s_X (x := 9) (v := 9) (a := a) (b := b) (row := row) (st := st) (fu := fu) h' rfl (by omega) (by unfold mX; rw [if_neg (by decide), if_neg (by decide), if_neg (by decide), if_neg (by decide), if_neg (by decide), if_neg (by decide), if_neg (by decide), if_neg (by decide), if_pos rfl, if_pos (by omega)])
          refine cont (fu' := fu - 1) (N1 := N1) (by omega) (by decide) (by decide) (by decide) (by decide) h (by rw [hg18.2]; omega) ⟨a, b, row, st, val, ?_, ?_, hR, hS⟩
          · rw [es]; exact s1
          · rw [es]; exact hV
      · obtain ⟨N1, rfl, hl⟩ := crun_l h
        have ht1 : tI 16 = 1 := by decide
        rw [ht1] at q1
        obtain ⟨v, s, rfl⟩ := len1 q1
        rw [crun_s hc hl, if_pos rfl] at h
        cases h
        have h' : Pre (gmake c ht).ls (gfold c ht c.length).gr (gsingle 4 (gfold c ht i)) := by rw [es] at hpre; exact hpre
        obtain ⟨N, hN⟩ := e_single (z := 4) (j := 4) (e := 0) (b := b) (fu := fu) (a' := v) (st' := st) (fu' := fu) hG rfl (by omega) h' hgw hd60 hd hV hR (fun b => by unfold mX; rw [if_neg (by decide), if_neg (by decide), if_neg (by decide), if_pos rfl])
        exact ⟨N, st, hN, hS⟩
      · obtain ⟨N1, rfl, hl⟩ := crun_l h
        rw [crun_s hc hl, if_neg (by decide), if_pos rfl] at h
        cases h
        have h' : Pre (gmake c ht).ls (gfold c ht c.length).gr (gline 9 10 (gfold c ht i)) := by rw [es] at hpre; exact hpre
        have := e_X (x := 10) (v := 10) (e := 4) (a := a) (b := b) (row := row) (st := st) (fu := fu) h' rfl (by omega) (by unfold mX; rw [if_neg (by decide), if_neg (by decide), if_neg (by decide), if_neg (by decide), if_neg (by decide), if_neg (by decide), if_neg (by decide), if_neg (by decide), if_neg (by decide), if_pos rfl])
        exact ⟨1, st, this, hS⟩
      · obtain ⟨N1, rfl, hl⟩ := crun_l h
        have ht1 : tI 18 = 1 := by decide
        rw [ht1] at q1
        obtain ⟨v, s, rfl⟩ := len1 q1
        obtain ⟨k', hk'⟩ := l5 rfl
        have hi1 := (List.getElem?_eq_some_iff.mp hk').1
        obtain ⟨t, et⟩ := (hL _ _ _ hk').2.2.2.1 (by decide)
        rw [crun_s hc hl, if_neg (by decide), if_neg (by decide), if_neg (fun z => absurd z.1 (by decide)), show mdo 18 k (v :: s) loc wrd = some (0, v :: s, loc, wrd) from rfl] at h
        dsimp only at h
        rw [if_neg (by decide), if_neg (by decide)] at h
        have hcg : cgo c i 18 k (v :: s) = (if v = k then some (t, s) else some (i + 2, v :: s)) := by
          unfold cgo
          rw [if_neg (by decide), if_neg (by decide), if_pos rfl]
          dsimp only
          rw [hk']
          dsimp only
          rw [et]
        rw [hcg] at h
        have he : (gfold c ht i).d = s.length + 1 := hd
        have es' : gfold c ht (i + 1) = gsa true (gline 12 k' (gline 9 40 (gcon k (gload s.length (gkeepAll (gfold c ht i)))))) := by
          rw [es, hfo _ _ hk', show s.length = (gfold c ht i).d - 1 by omega]
          rfl
        have h' : Pre (gmake c ht).ls (gfold c ht c.length).gr (gline 12 k' (gline 9 40 (gcon k (gload s.length (gkeepAll (gfold c ht i)))))) := by rw [es'] at hpre; exact hpre
        have h1 := h'.of (Ext.line (i := 12) _ _ (by decide))
        have h2 := h1.of (Ext.line (i := 9) _ _ (by decide))
        have h3 := h2.of (Ext.con _ _)
        obtain ⟨a1, b1, row1, s1, k1⟩ := s_keepAll (b := b) (fu := fu) hG (h3.of (Ext.load _ _)) hgw hd60 hV
        have s2 := s_loadU (q := gkeepAll (gfold c ht i)) (k := s.length) (val := val) (row := row1) (st := st) (a := a1) (b := b1) (fu := fu) hG h3 (by unfold pqG at hgk; omega) (by omega) (Or.inr (Or.inr (k1 s.length (by omega))))
        rw [hR.1] at s2
        have hgl : (gload s.length (gkeepAll (gfold c ht i))).gr.length ≤ 90 := by
          have z1 := (ld s.length (gkeepAll (gfold c ht i)) (by omega) (by omega)).2.1
          have z2 := nk_le (gkeepAll (gfold c ht i)) s.length
          unfold pqG at *
          omega
        have s3 := s_con (a := v) (b := a1) (row := row1) (st := st) (fu := fu) hG h2 hgl
        have s4 := s_X (x := 40) (v := 40) (a := k) (b := v) (row := row1) (st := st) (fu := fu) h1 rfl (by omega) (mX_rel (j := 0) (by omega) k v st fu)
        obtain ⟨m1, m2⟩ := lab_make hL hT hall hlen et
        obtain ⟨p1, p2⟩ := jmp_at h' rfl m1
        have s5 := s_12 (a := rI (rel 0 v k)) (b := v) (row := row1) (st := st) (fu := fu) p1
        rw [nI_clamp (by omega)] at s5
        have hrel : (rI (rel 0 v k) = 0) ↔ ¬ v = k := by
          show rI (decide (v = k)) = 0 ↔ _
          by_cases z : v = k
          · rw [decide_eq_true z]; exact ⟨fun y => absurd y (by decide), fun y => absurd z y⟩
          · rw [decide_eq_false z]; exact ⟨fun _ => z, fun _ => rfl⟩
        by_cases hv : v = k
        · rw [if_pos hv] at h
          rw [if_neg (fun z => hrel.mp z hv)] at s5
          obtain ⟨h2', -, e2⟩ := q3 t ((v :: s).length + gI 18 - (if 18 = 18 then 1 else 0)) ⟨18, k, hc, Or.inr ⟨by unfold nx1; rw [hc]; dsimp only; rw [if_neg (by decide), if_pos rfl, hk']; exact et, rfl⟩⟩
          have e3 : ht t = some s.length := by
            obtain ⟨h3', e4, e5⟩ := q3 t ((v :: s).length + gI 18 - (if 18 = 18 then 1 else 0)) ⟨18, k, hc, Or.inr ⟨by unfold nx1; rw [hc]; dsimp only; rw [if_neg (by decide), if_pos rfl, hk']; exact et, rfl⟩⟩
            rw [e5]
            rw [if_pos rfl, hg18.1] at e4
            simp only [List.length_cons] at e4
            congr 1
            omega
          exact EndM.back ((((s1.trans s2).trans s3).trans s4).trans s5) (land (by omega) et h e3 hR.2 (fun j hj => (k1 j (by omega)).2) hS)
        · rw [if_neg hv] at h
          rw [if_pos (hrel.mpr hv), ← p2] at s5
          have es2 : gfold c ht (i + 1 + 1) = gsa false (gfold c ht (i + 1)) := by
            rw [gfold_s hk']
            show ggoes 12 _ _ _ = _
            unfold ggoes
            rw [if_neg (by decide), if_neg (by decide), if_pos (by rw [es']; rfl)]
          have e3 : ht (i + 2) = some (v :: s).length := by
            obtain ⟨h3', e4, e5⟩ := q3 (i + 2) ((v :: s).length + gI 18) ⟨18, k, hc, Or.inl ⟨by unfold nx0; rw [hc]; rfl, rfl⟩⟩
            rw [e5]
            rw [hg18.1] at e4
            congr 1
            omega
          have hkf : (gfold c ht (i + 2)).kf = (gkeepAll (gfold c ht i)).kf := by
            rw [show i + 2 = i + 1 + 1 by omega, es2, es']
            show (gcon k (gload s.length (gkeepAll (gfold c ht i)))).kf = _
            rw [gcon_kf, gload_kf]
          have hdd : (gfold c ht (i + 2)).d = (gfold c ht i).d := by
            rw [show i + 2 = i + 1 + 1 by omega, es2, es']
            show (gcon k (gload s.length (gkeepAll (gfold c ht i)))).d = _
            rw [gcon_d, gload_d, gkeepAll_d]
          have hpos : pos (gfold c ht (i + 2)) = pos (gline 12 k' (gline 9 40 (gcon k (gload s.length (gkeepAll (gfold c ht i)))))) := by
            rw [show i + 2 = i + 1 + 1 by omega, es2, es']
            rfl
          have hre2 : (gfold c ht (i + 2)).re = true := by
            rw [show i + 2 = i + 1 + 1 by omega, es2]
            show (gfold c ht (i + 1)).re = true
            rw [f3, if_neg (by decide), if_neg (by decide)]
          refine EndM.back ((((s1.trans s2).trans s3).trans s4).trans s5) ?_
          rw [← hpos]
          refine ih N1 (by omega) (i + 2) (v :: s) loc wrd fu r h val _ _ row1 st hre2 (by rw [show i + 2 = i + 1 + 1 by omega, es2]; rfl) e3 (Or.inl ?_) hR hS
          rw [hkf, hdd]
          exact fun j hj => Or.inr (Or.inr (k1 j hj))
/-- a run of the lines answers as a run of the code does -/
theorem sim_all (hL : LabC c) (hT : Typ c ht) (hall : ∀ i, i < c.length → SR c i) (hlen : c.length ≤ 64) {N : Nat} {loc wrd : Nat → Int32} {fu : Nat} {r : Res} (h : crun c N 0 [] loc wrd fu = some r) {st : Nat → Int32} (hS : RelS st loc wrd) (row : Nat → Int32) : EndM (gmake c ht).ls 0 0 0 row st fu r.1 r.2.1 r.2.2.1 r.2.2.2.1 r.2.2.2.2 :=
  sim hL hT hall hlen N 0 [] loc wrd fu r h row 0 0 row st rfl rfl hT.1 (Or.inl (fun j hj => absurd hj (Nat.not_lt_zero _))) trivial hS
end RUN
