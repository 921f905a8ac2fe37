/-! the lines run as the code does: instructions -/
def RelS (st loc wrd : Nat → Int32) : Prop := (∀ j, j < 64 → wrd j = st j) ∧ ∀ j, j < 16 → loc j = st (64 + j)
def Good (F : Lns) (q' : GS) (σ' : List Int32) (loc' wrd' : Nat → Int32) (p : Nat) (a b : Int32) (row st : Nat → Int32) (fu fu' : Nat) : Prop := ∃ a' b' row' st' val', Sps (cmp F) p a b row st fu (pos q') a' b' row' st' fu' ∧ VR q' val' a' row' st' ∧ RowIs val' σ' ∧ RelS st' loc' wrd'
def EndM (F : Lns) (p : Nat) (a b : Int32) (row st : Nat → Int32) (fu : Nat) (how : Nat) (v : Int32) (loc' wrd' : Nat → Int32) (fu' : Nat) : Prop := ∃ N st', mrun (cmp F) N p a b row st fu = some (how, v, st', fu') ∧ RelS st' loc' wrd'
theorem RelS.w {st loc wrd : Nat → Int32} {k : Nat} {v : Int32} (h : RelS st loc wrd) (hk : k < 64) : RelS (va_up st k v) loc (va_up wrd k v) := by
  refine ⟨fun j hj => ?_, fun j hj => ?_⟩
  · by_cases e : j = k
    · rw [e, va_up_self, va_up_self]
    · rw [va_up_ne _ _ e, va_up_ne _ _ e]; exact h.1 j hj
  · rw [va_up_ne _ _ (by omega)]; exact h.2 j hj
theorem RelS.l {st loc wrd : Nat → Int32} {k : Nat} {v : Int32} (h : RelS st loc wrd) : RelS (va_up st (64 + k) v) (va_up loc k v) wrd := by
  refine ⟨fun j hj => ?_, fun j hj => ?_⟩
  · rw [va_up_ne _ _ (by omega)]; exact h.1 j hj
  · by_cases e : j = k
    · rw [e, va_up_self, va_up_self]
    · rw [va_up_ne _ _ e, va_up_ne _ _ (by omega)]; exact h.2 j hj
theorem and3 (y : Int32) : ∃ t, t < 4 ∧ y &&& 3 = nI t := by
  have h : (y &&& 3).toBitVec.toNat ≤ 3 := by
    rw [Int32.toBitVec_and, BitVec.toNat_and]
    exact Nat.and_le_right
  refine ⟨(y &&& 3).toBitVec.toNat, by omega, ?_⟩
  apply Int32.toBitVec_inj.mp
  apply BitVec.eq_of_toNat_eq
  show _ = (nI (y &&& 3).toBitVec.toNat).toBitVec.toNat
  have : ∀ t, t < 4 → (nI t).toBitVec.toNat = t := by decide +kernel
  rw [this _ (by omega)]
theorem plc_shr : ∀ k, k < 64 → ∀ t, t < 4 → ((nI k <<< ((2 : Int32) &&& 31)) ||| nI t) >>> ((2 : Int32) &&& 31) = nI k ∧ ((nI k <<< ((2 : Int32) &&& 31)) ||| nI t) &&& 3 = nI t := by decide +kernel
section SIM3
variable {F : Lns} {G : List Int32} {q : GS} {val row st loc wrd : Nat → Int32} {a b : Int32} {fu : Nat} {r : List Int32} {v x y w : Int32}
theorem gl90 (hg : pqG q + pqW q ≤ 88) : q.gr.length ≤ 90 := by unfold pqG at hg; omega
theorem i_push {σ : List Int32} {z : Nat × Int32} (hG : Grt F G) (h : Pre F G (gpush z q)) (hg : pqG q + pqW q ≤ 88) (hd : q.d ≤ 60) (hl : q.d = σ.length) (hV : VR q val a row st) (hR : RowIs val σ) (hS : RelS st loc wrd) (hz : z = (0, v) ∨ ∃ j, z = (1, j) ∧ inR j 16 = true ∧ v = st (64 + j.toNatClampNeg)) : Good F (gpush z q) (v :: σ) loc wrd (pos q) a b row st fu fu := by
  have h' : Pre F G (gtop q) := h
  obtain ⟨a1, b1, row1, s1, v1⟩ := s_top (b := b) (fu := fu) hG h' (gl90 hg) hd hV
  refine ⟨a1, b1, row1, st, va_up val q.d v, s1, Or.inl ?_, by rw [hl]; exact RowIs.push hR, hS⟩
  have ek : (gpush z q).kf = va_up (gtop q).kf q.d z := by show va_up (gtop q).kf (gtop q).d z = _; rw [gtop_d]
  have ed : (gpush z q).d = q.d + 1 := by show (gtop q).d + 1 = _; rw [gtop_d]
  rw [ek, ed]
  intro k hk
  by_cases e : k = q.d
  · rw [e]
    unfold KU
    rw [va_up_self, va_up_self]
    rcases hz with rfl | ⟨j, rfl, hj, rfl⟩
    · exact Or.inl ⟨rfl, rfl⟩
    · exact Or.inr (Or.inl ⟨rfl, hj, rfl⟩)
  · have := v1 k (by omega)
    unfold KU at this ⊢
    rw [va_up_ne _ _ e, va_up_ne _ _ e]
    exact this
theorem pre_single {j : Int32} {n : Nat} (he : q.d = n + 1) (h : Pre F G (gsingle j q)) : Pre F G (gline 9 j (gload n q)) := by
  have h' : Pre F G (gline 9 j (gload (q.d - 1) q)) := h
  rwa [show q.d - 1 = n by omega] at h'
theorem i_single {z : Int32} {j : Nat} (hG : Grt F G) (hz : z = nI j) (hj : j < 100) (h : Pre F G (gsingle z q)) (hg : pqG q + pqW q ≤ 88) (hd : q.d ≤ 60) (hl : q.d = (v :: r).length) (hV : VR q val a row st) (hR : RowIs val (v :: r)) (hS : RelS st loc wrd) (hm : ∀ b, mX j v b st fu = some (0, w, st, fu)) : Good F (gsingle z q) (w :: r) loc wrd (pos q) a b row st fu fu := by
  have he : q.d = r.length + 1 := hl
  have h' := pre_single he h
  obtain ⟨b1, s1, v1⟩ := s_ldtop (b := b) (fu := fu) hG he (h'.of (Ext.line (i := 9) _ _ (by decide))) (gl90 hg) hd hV
  rw [hR.1] at s1
  have s2 := s_X (row := row) h' hz hj (hm b1)
  have hp : pos (gsingle z q) = pos (gline 9 z (gload r.length q)) := by unfold gsingle; rw [show q.d - 1 = r.length by omega]; rfl
  have ek : (gsingle z q).kf = va_up q.kf r.length (5, 0) := by
    show va_up (gload (q.d - 1) q).kf ((gload (q.d - 1) q).d - 0 - 1) (5, 0) = _
    rw [gload_kf, gload_d, show q.d - 0 - 1 = r.length by omega]
  have ed : (gsingle z q).d = r.length + 1 := by show (gload (q.d - 1) q).d - 0 = _; rw [gload_d]; omega
  refine ⟨w, b1, row, st, va_up val r.length w, by rw [hp]; exact s1.trans s2, Or.inr ⟨r.length, ed, by rw [ek, va_up_self], (va_up_self _ _ _).symm, ?_⟩, RowIs.push hR.2, hS⟩
  rw [ek]
  exact v1.mv (Nat.le_refl _) (fun k hk => va_up_ne _ _ (by omega)) (fun k hk => va_up_ne _ _ (by omega)) (fun k hk => Or.inl rfl) (fun _ _ => rfl)
theorem e_single {z : Int32} {j e fu' : Nat} {a' : Int32} {st' : Nat → Int32} (hG : Grt F G) (hz : z = nI j) (hj : j < 100) (h : Pre F G (gsingle z q)) (hg : pqG q + pqW q ≤ 88) (hd : q.d ≤ 60) (hl : q.d = (v :: r).length) (hV : VR q val a row st) (hR : RowIs val (v :: r)) (hm : ∀ b, mX j v b st fu = some (e + 1, a', st', fu')) : ∃ N, mrun (cmp F) N (pos q) a b row st fu = some (e, (if e + 1 = 1 then a' else 0), st', fu') := by
  have he : q.d = r.length + 1 := hl
  have h' := pre_single he h
  obtain ⟨b1, s1, v1⟩ := s_ldtop (b := b) (fu := fu) hG he (h'.of (Ext.line (i := 9) _ _ (by decide))) (gl90 hg) hd hV
  rw [hR.1] at s1
  exact s1 1 _ (e_X h' hz hj (hm b1))
theorem i_pair {z : Int32} {j : Nat} (hG : Grt F G) (hz : z = nI j) (hj : j < 100) (h : Pre F G (gpair z q)) (hg : pqG q + pqW q ≤ 88) (hd : q.d ≤ 60) (hl : q.d = (y :: x :: r).length) (hV : VR q val a row st) (hR : RowIs val (y :: x :: r)) (hS : RelS st loc wrd) (hm : mX j y x st fu = some (0, w, st, fu)) : Good F (gpair z q) (w :: r) loc wrd (pos q) a b row st fu fu := by
  have he : q.d = r.length + 2 := hl
  have h' : Pre F G (gline 9 z (gboth q)) := h
  obtain ⟨row1, s1, v1⟩ := s_both (b := b) (fu := fu) hG he (h'.of (Ext.line (i := 9) _ _ (by decide))) hg hd hV
  rw [show val (r.length + 1) = y from hR.1, hR.2.1] at s1
  have s2 := s_X (row := row1) h' hz hj hm
  have ek : (gpair z q).kf = va_up (gboth q).kf r.length (5, 0) := by
    show va_up (gboth q).kf ((gboth q).d - 1 - 1) (5, 0) = _
    rw [gboth_d, show q.d - 1 - 1 = r.length by omega]
  have ed : (gpair z q).d = r.length + 1 := by show (gboth q).d - 1 = _; rw [gboth_d]; omega
  refine ⟨w, x, row1, st, va_up val r.length w, s1.trans s2, Or.inr ⟨r.length, ed, by rw [ek, va_up_self], (va_up_self _ _ _).symm, ?_⟩, RowIs.push hR.2.2, hS⟩
  rw [ek]
  exact v1.mv (by omega) (fun k hk => va_up_ne _ _ (by omega)) (fun k hk => va_up_ne _ _ (by omega)) (fun k hk => Or.inl rfl) (fun _ _ => rfl)
theorem e_pair {z : Int32} {j e fu' : Nat} {a' : Int32} {st' : Nat → Int32} (hG : Grt F G) (hz : z = nI j) (hj : j < 100) (h : Pre F G (gpair z q)) (hg : pqG q + pqW q ≤ 88) (hd : q.d ≤ 60) (hl : q.d = (y :: x :: r).length) (hV : VR q val a row st) (hR : RowIs val (y :: x :: r)) (hm : mX j y x st fu = some (e + 1, a', st', fu')) : ∃ N, mrun (cmp F) N (pos q) a b row st fu = some (e, (if e + 1 = 1 then a' else 0), st', fu') := by
  have he : q.d = r.length + 2 := hl
  have h' : Pre F G (gline 9 z (gboth q)) := h
  obtain ⟨row1, s1, v1⟩ := s_both (b := b) (fu := fu) hG he (h'.of (Ext.line (i := 9) _ _ (by decide))) hg hd hV
  rw [show val (r.length + 1) = y from hR.1, hR.2.1] at s1
  exact s1 1 _ (e_X h' hz hj hm)
theorem i_chain {k : Int32} {j : Nat} (hG : Grt F G) (hz : 40 + k = nI j) (hj : j < 100) (h : Pre F G (gchain k q)) (hg : pqG q + pqW q ≤ 88) (hd : q.d ≤ 60) (hl : q.d = (y :: x :: r).length) (hV : VR q val a row st) (hR : RowIs val (y :: x :: r)) (hS : RelS st loc wrd) (hm : mX j y x st fu = some (0, w, st, fu)) : Good F (gchain k q) (w :: y :: r) loc wrd (pos q) a b row st fu fu := by
  have he : q.d = r.length + 2 := hl
  have h' : Pre F G (gline 9 (40 + k) (gline 6 (nI (q.d - 2)) (gboth q))) := h
  have h1 := h'.of (Ext.line (i := 9) _ _ (by decide))
  obtain ⟨row1, s1, v1⟩ := s_both (b := b) (fu := fu) hG he (h1.of (Ext.line (i := 6) _ _ (by decide))) hg hd hV
  rw [show val (r.length + 1) = y from hR.1, hR.2.1] at s1
  have s2 := s_sq (a := y) (b := x) (row := row1) (st := st) (fu := fu) h1 (by omega)
  have s3 := s_X (row := va_up row1 (q.d - 2) y) h' hz hj hm
  have ek : (gchain k q).kf = va_up (va_up (gboth q).kf r.length (4, 0)) (r.length + 1) (5, 0) := by
    show va_up (va_up (gboth q).kf (q.d - 2) (4, 0)) (q.d - 1) (5, 0) = _
    rw [show q.d - 2 = r.length by omega, show q.d - 1 = r.length + 1 by omega]
  have ed : (gchain k q).d = r.length + 1 + 1 := by show (gboth q).d = _; rw [gboth_d]; omega
  refine ⟨w, x, va_up row1 (q.d - 2) y, st, va_up (va_up val r.length y) (r.length + 1) w, (s1.trans s2).trans s3, Or.inr ⟨r.length + 1, ed, by rw [ek, va_up_self], (va_up_self _ _ _).symm, ?_⟩, ?_, hS⟩
  · rw [ek]
    intro i hi
    have k1 : va_up (va_up (gboth q).kf r.length (4, 0)) (r.length + 1) (5, 0) i = va_up (gboth q).kf r.length (4, 0) i := va_up_ne _ _ (by omega)
    have k2 : va_up (va_up val r.length y) (r.length + 1) w i = va_up val r.length y i := va_up_ne _ _ (by omega)
    unfold KU
    rw [k1, k2]
    by_cases e : i = r.length
    · rw [e, va_up_self, va_up_self, show q.d - 2 = r.length by omega, va_up_self]
      exact Or.inr (Or.inr ⟨rfl, rfl⟩)
    · rw [va_up_ne _ _ e, va_up_ne _ _ e, va_up_ne _ _ (by omega)]
      exact v1 i (by omega)
  · exact RowIs.push (σ := y :: r) (RowIs.push hR.2.2)
theorem i_stores {k : Int32} (hG : Grt F G) (hk : inR k 16 = true) (h : Pre F G (gstores k q)) (hg : pqG q + pqW q ≤ 88) (hd : q.d ≤ 60) (hl : q.d = (v :: r).length) (hV : VR q val a row st) (hR : RowIs val (v :: r)) (hS : RelS st loc wrd) : Good F (gstores k q) r (va_up loc k.toNatClampNeg v) wrd (pos q) a b row st fu fu := by
  have he : q.d = r.length + 1 := hl
  have h' : Pre F G (gline 7 k (gload (q.d - 1) (gkeepBelow q))) := h
  have hq1 : q.d - 1 = r.length := by omega
  rw [hq1] at h'
  have h1 := h'.of (Ext.line (i := 7) _ _ (by decide))
  obtain ⟨a1, b1, row1, s1, v1, k1⟩ := s_keepBelow (b := b) (fu := fu) hG he (h1.of (Ext.load _ _)) hg hd hV
  have hgl := Gb.ph hg (ph_keepBelow hd (by omega)) (by omega)
  obtain ⟨b2, s2, v2⟩ := s_ldtop (q := gkeepBelow q) (b := b1) (fu := fu) hG ((gkeepBelow_d q).trans he) h1 hgl (by rw [gkeepBelow_d]; exact hd) v1
  rw [hR.1] at s2
  obtain ⟨p1, p2⟩ := at_line h' (by decide)
  rw [cmp1_n rfl] at p1
  have s3 := s_7 (a := v) (b := b2) (row := row1) (st := st) (fu := fu) p1 hk
  rw [← p2] at s3
  have hp : pos (gstores k q) = pos (gline 7 k (gload r.length (gkeepBelow q))) := by unfold gstores; rw [hq1]; rfl
  have ek : (gstores k q).kf = (gkeepBelow q).kf := by show (gload (q.d - 1) (gkeepBelow q)).kf = _; rw [gload_kf]
  have ed : (gstores k q).d = r.length := hq1
  refine ⟨v, b2, row1, va_up st (64 + k.toNatClampNeg) v, val, by rw [hp]; exact (s1.trans s2).trans s3, Or.inl ?_, hR.2, hS.l⟩
  rw [ek, ed]
  intro i hi
  have h4 := k1 i hi
  have := v2 i hi
  unfold KU at this ⊢
  rcases this with ⟨z, -⟩ | ⟨z, -⟩ | z
  · omega
  · omega
  · exact Or.inr (Or.inr z)
theorem i_indirect (hG : Grt F G) (h : Pre F G (gindirect q)) (hg : pqG q + pqW q ≤ 88) (hd : q.d ≤ 60) (hl : q.d = (y :: x :: r).length) (hV : VR q val a row st) (hR : RowIs val (y :: x :: r)) (hS : RelS st loc wrd) : (isW y.toInt = true → Good F (gindirect q) r loc (va_up wrd y.toNatClampNeg x) (pos q) a b row st fu fu) ∧ (¬ isW y.toInt = true → EndM F (pos q) a b row st fu 2 0 loc wrd fu) := by
  have he : q.d = r.length + 2 := hl
  have h' : Pre F G (gline 9 5 (gboth (gkeep2N (q.d - 2) q))) := h
  have h1 := h'.of (Ext.line (i := 9) _ _ (by decide))
  obtain ⟨a1, b1, row1, s1, v1⟩ := s_keep2N (b := b) (fu := fu) hG hg hd hV (q.d - 2) (by omega) (h1.of (Ext.both _))
  have hp := ph_keep2N hd (by omega : pqG q + pqW q ≤ 90) (q.d - 2) (by omega)
  obtain ⟨row2, s2, v2⟩ := s_both (q := gkeep2N (q.d - 2) q) (e := r.length) (b := b1) (fu := fu) hG ((gkeep2N_d _ q).trans he) h1 (by have := hp.2.1; omega) (by rw [gkeep2N_d]; exact hd) v1
  rw [show val (r.length + 1) = y from hR.1, hR.2.1] at s2
  refine ⟨fun hw => ?_, fun hw => ?_⟩
  · have s3 := s_X (x := 5) (v := 5) (a := y) (b := x) (row := row2) (st := st) (fu := fu) h' rfl (by omega) (by unfold mX; rw [if_neg (by decide), if_neg (by decide), if_neg (by decide), if_neg (by decide), if_pos rfl, if_pos hw])
    have hy := (isW_cl hw).2
    refine ⟨_, _, row2, _, val, (s1.trans s2).trans s3, Or.inl ?_, hR.2.2, hS.w hy⟩
    show VU (gboth (gkeep2N (q.d - 2) q)).kf val row2 _ (q.d - 2)
    exact v2.mv (by omega) (fun _ _ => rfl) (fun _ _ => rfl) (fun _ _ => Or.inl rfl) (fun j hj => va_up_ne _ _ (by omega))
  · have s3 := e_X (x := 5) (v := 5) (e := 2) (a := y) (b := x) (row := row2) (st := st) (fu := fu) h' rfl (by omega) (by unfold mX; rw [if_neg (by decide), if_neg (by decide), if_neg (by decide), if_neg (by decide), if_pos rfl, if_neg hw])
    obtain ⟨N, hN⟩ := (s1.trans s2) 1 _ s3
    exact ⟨N, st, hN, hS⟩
theorem Pre.dep {d : Nat} (h : Pre F G (gdep d q)) : Pre F G q := h
theorem pos_dep (d : Nat) (q : GS) : pos (gdep d q) = pos q := rfl
theorem i_bytes (hG : Grt F G) (h : Pre F G (gbytes q)) (hg : pqG q + pqW q ≤ 88) (hd : q.d ≤ 60) (hl : q.d = (y :: x :: v :: r).length) (hV : VR q val a row st) (hR : RowIs val (y :: x :: v :: r)) (hS : RelS st loc wrd) : (isW (wAt x y) = true → Good F (gbytes q) r loc (va_up wrd (wAt x y).toNat (setb (wrd (wAt x y).toNat) y v)) (pos q) a b row st fu fu) ∧ (¬ isW (wAt x y) = true → EndM F (pos q) a b row st fu 2 0 loc wrd fu) := by
  have he : q.d = r.length + 1 + 2 := hl
  have h' : Pre F G (gline 9 8 (gline 5 (nI (q.d - 1)) (gload (q.d - 3) (gline 6 (nI (q.d - 1)) (gline 9 7 (gboth (gkeep2N (q.d - 3) q))))))) := Pre.dep h
  have h1 := h'.of (Ext.line (i := 9) _ _ (by decide))
  have h2 := h1.of (Ext.line (i := 5) _ _ (by decide))
  have h3 := h2.of (Ext.load _ _)
  have h4 := h3.of (Ext.line (i := 6) _ _ (by decide))
  have h5 := h4.of (Ext.line (i := 9) _ _ (by decide))
  obtain ⟨a1, b1, row1, s1, v1⟩ := s_keep2N (b := b) (fu := fu) hG hg hd hV (q.d - 3) (by omega) (h5.of (Ext.both _))
  have hp := ph_keep2N hd (by omega : pqG q + pqW q ≤ 90) (q.d - 3) (by omega)
  have hgk : pqG (gkeep2N (q.d - 3) q) + pqW (gkeep2N (q.d - 3) q) ≤ 88 := by have := hp.2.1; omega
  have hkd : (gkeep2N (q.d - 3) q).d = r.length + 1 + 2 := (gkeep2N_d _ q).trans he
  obtain ⟨row2, s2, v2⟩ := s_both (q := gkeep2N (q.d - 3) q) (e := r.length + 1) (b := b1) (fu := fu) hG hkd h5 hgk (by omega) v1
  have hgb : (gboth (gkeep2N (q.d - 3) q)).gr.length ≤ 90 := by
    obtain ⟨kf, -, -, z, -⟩ := ld_both hkd (by omega) (by omega : pqG (gkeep2N (q.d - 3) q) + pqW (gkeep2N (q.d - 3) q) ≤ 90)
    unfold pqG at *
    omega
  rw [show val (r.length + 1 + 1) = y from hR.1, show val (r.length + 1) = x from hR.2.1] at s2
  have hv : val r.length = v := hR.2.2.1
  have hbe : gbytes q = gdep (q.d - 3) (gline 9 8 (gline 5 (nI (q.d - 1)) (gload (q.d - 3) (gline 6 (nI (q.d - 1)) (gline 9 7 (gboth (gkeep2N (q.d - 3) q))))))) := rfl
  generalize gboth (gkeep2N (q.d - 3) q) = q2 at *
  rw [hbe]
  refine ⟨fun hw => ?_, fun hw => ?_⟩
  · obtain ⟨t, ht, hyt⟩ := and3 y
    have hw2 : 0 ≤ wAt x y ∧ wAt x y < 64 := of_decide_eq_true hw
    generalize hat : (wAt x y).toNat = k at *
    have hk : k < 64 := by omega
    obtain ⟨g1, g2⟩ := plc_shr k hk t ht
    have s3 := s_X (x := 7) (v := 7) (a := y) (b := x) (row := row2) (st := st) (fu := fu) h4 rfl (by omega) (by unfold mX; rw [if_neg (by decide), if_neg (by decide), if_neg (by decide), if_neg (by decide), if_neg (by decide), if_neg (by decide), if_pos rfl, if_pos hw, hat, hyt])
    generalize hz : (nI k <<< ((2 : Int32) &&& 31)) ||| nI t = z at *
    have s4 := s_sq (a := z) (b := x) (row := row2) (st := st) (fu := fu) h3 (by omega)
    have s5 := s_loadU (q := gline 6 (nI (q.d - 1)) (gline 9 7 q2)) (k := q.d - 3) (val := val) (row := va_up row2 (q.d - 1) z) (st := st) (a := z) (b := x) (fu := fu) hG h2 hgb (by omega) (by
      have := v2 (q.d - 3) (by omega)
      unfold KU at this ⊢
      rw [va_up_ne _ _ (by omega)]
      exact this)
    rw [show val (q.d - 3) = v by rw [show q.d - 3 = r.length by omega]; exact hv] at s5
    obtain ⟨p1, p2⟩ := at_line h1 (by decide)
    rw [cmp1_n rfl] at p1
    have s6 := s_5 (a := v) (b := z) (row := va_up row2 (q.d - 1) z) (st := st) (fu := fu) p1 (by unfold inR; rw [nI_toInt (by omega)]; exact decide_eq_true ⟨by omega, by omega⟩)
    rw [nI_clamp (by omega), va_up_self, ← p2] at s6
    have hsz : isW (z >>> ((2 : Int32) &&& 31)).toInt = true := by rw [g1, nI_toInt (by omega)]; exact decide_eq_true ⟨by omega, by omega⟩
    have hcl : (z >>> ((2 : Int32) &&& 31)).toNatClampNeg = k := by rw [g1, nI_clamp (by omega)]
    have hsb : setb (st k) z v = setb (st k) y v := by unfold setb; rw [g2, hyt]
    have s7 := s_X (x := 8) (v := 8) (a := z) (b := v) (row := va_up row2 (q.d - 1) z) (st := st) (fu := fu) h' rfl (by omega) (by unfold mX; rw [if_neg (by decide), if_neg (by decide), if_neg (by decide), if_neg (by decide), if_neg (by decide), if_neg (by decide), if_neg (by decide), if_pos rfl, if_pos hsz, hcl, hsb])
    refine ⟨z, v, va_up row2 (q.d - 1) z, va_up st k (setb (st k) y v), val, by rw [pos_dep]; exact ((((((s1.trans s2).trans s3).trans s4).trans s5).trans s6).trans s7), Or.inl ?_, hR.2.2.2, by rw [hS.1 k hk]; exact hS.w hk⟩
    show VU (gload (q.d - 3) (gline 6 (nI (q.d - 1)) (gline 9 7 q2))).kf val _ _ (q.d - 3)
    rw [gload_kf]
    exact v2.mv (by omega) (fun _ _ => rfl) (fun _ _ => rfl) (fun i hi => Or.inl (va_up_ne _ _ (by omega))) (fun j hj => va_up_ne _ _ (by omega))
  · have s3 := e_X (x := 7) (v := 7) (e := 2) (a := y) (b := x) (row := row2) (st := st) (fu := fu) h4 rfl (by omega) (by unfold mX; rw [if_neg (by decide), if_neg (by decide), if_neg (by decide), if_neg (by decide), if_neg (by decide), if_neg (by decide), if_pos rfl, if_neg hw])
    obtain ⟨N, hN⟩ := (s1.trans s2) 1 _ s3
    exact ⟨N, st, hN, hS⟩
end SIM3
