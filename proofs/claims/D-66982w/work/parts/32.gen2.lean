/-! Generator: keepAll, both, held, push, keepBelow, keep2 and what is made of them -/
def gkeepN : Nat → GS → GS
  | 0, q => q
  | k + 1, q => gkeep k (gkeepN k q)
def gbth (q : GS) : GS := if (q.kf (q.d - 1)).1 = 5 then gkeep (q.d - 1) q else q
def gtop (q : GS) : GS := if 0 < q.d then gbth q else q
def gkeepAll (q : GS) : GS := gkeepN q.d (gtop q)
def gboth (q : GS) : GS := gload (q.d - 1) (gload (q.d - 2) (gbth q))
def gheld (less : Nat) (q : GS) : GS := gset (q.d - less - 1) (5, 0) (gdep (q.d - less) q)
def gput (x : Nat × Int32) (q : GS) : GS := (q.d + 1, va_up q.kf q.d x, q.ls, q.gr, max q.mo (q.d + 1), q.re, q.sa)
def gpush (x : Nat × Int32) (q : GS) : GS := gput x (gtop q)
def gkeepBelow (q : GS) : GS := gkeepN (q.d - 1) (if 1 < q.d then gbth q else q)
def gkeep2 (k : Nat) (q : GS) : GS := if (q.kf k).1 = 4 then q else gkeep k (gbth q)
def gkeep2N : Nat → GS → GS
  | 0, q => q
  | k + 1, q => gkeep2 k (gkeep2N k q)
def gsingle (x : Int32) (q : GS) : GS := gheld 0 (gline 9 x (gload (q.d - 1) q))
def gpair (x : Int32) (q : GS) : GS := gheld 1 (gline 9 x (gboth q))
def gchain (k : Int32) (q : GS) : GS := gset (q.d - 1) (5, 0) (gset (q.d - 2) (4, 0) (gline 9 (40 + k) (gline 6 (nI (q.d - 2)) (gboth q))))
def gstores (a : Int32) (q : GS) : GS := gdep (q.d - 1) (gline 7 a (gload (q.d - 1) (gkeepBelow q)))
def gindirect (q : GS) : GS := gdep (q.d - 2) (gline 9 5 (gboth (gkeep2N (q.d - 2) q)))
def gbytes (q : GS) : GS := gdep (q.d - 3) (gline 9 8 (gline 5 (nI (q.d - 1)) (gload (q.d - 3) (gline 6 (nI (q.d - 1)) (gline 9 7 (gboth (gkeep2N (q.d - 3) q)))))))
theorem gline_d (i : Nat) (v : Int32) (q : GS) : (gline i v q).d = q.d := rfl
theorem gset_d (k : Nat) (x : Nat × Int32) (q : GS) : (gset k x q).d = q.d := rfl
theorem gdep_d (d : Nat) (q : GS) : (gdep d q).d = d := rfl
theorem gkeepN_d (k : Nat) (q : GS) : (gkeepN k q).d = q.d := by
  induction k with
  | zero => rfl
  | succ k ih => rw [gkeepN, gkeep_d, ih]
theorem gbth_d (q : GS) : (gbth q).d = q.d := by
  unfold gbth
  split
  · exact gkeep_d _ _
  · rfl
theorem gtop_d (q : GS) : (gtop q).d = q.d := by
  unfold gtop
  split
  · exact gbth_d q
  · rfl
theorem gkeepAll_d (q : GS) : (gkeepAll q).d = q.d := by unfold gkeepAll; rw [gkeepN_d, gtop_d]
theorem gboth_d (q : GS) : (gboth q).d = q.d := by unfold gboth; rw [gload_d, gload_d, gbth_d]
theorem gkeepBelow_d (q : GS) : (gkeepBelow q).d = q.d := by
  unfold gkeepBelow
  rw [gkeepN_d]
  split
  · exact gbth_d q
  · rfl
theorem gkeep2_d (k : Nat) (q : GS) : (gkeep2 k q).d = q.d := by
  unfold gkeep2
  split
  · rfl
  · rw [gkeep_d, gbth_d]
theorem gkeep2N_d (k : Nat) (q : GS) : (gkeep2N k q).d = q.d := by
  induction k with
  | zero => rfl
  | succ k ih => rw [gkeep2N, gkeep2_d, ih]
theorem QLe.bth (q : GS) : QLe q (gbth q) := by
  unfold gbth
  split
  · exact QLe.keep _ _
  · exact QLe.rf _
theorem QLe.top (q : GS) : QLe q (gtop q) := by
  unfold gtop
  split
  · exact QLe.bth _
  · exact QLe.rf _
theorem QLe.keepN (k : Nat) (q : GS) : QLe q (gkeepN k q) := by
  induction k with
  | zero => exact QLe.rf _
  | succ k ih => rw [gkeepN]; exact ih.trans (QLe.keep _ _)
theorem QLe.keepNm {k m : Nat} (h : k ≤ m) (q : GS) : QLe (gkeepN k q) (gkeepN m q) := by
  induction m with
  | zero => rw [show k = 0 by omega]; exact QLe.rf _
  | succ m ih =>
    by_cases e : k = m + 1
    · rw [e]; exact QLe.rf _
    · rw [gkeepN]; exact (ih (by omega)).trans (QLe.keep _ _)
theorem QLe.keep2 (k : Nat) (q : GS) : QLe q (gkeep2 k q) := by
  unfold gkeep2
  split
  · exact QLe.rf _
  · exact (QLe.bth q).trans (QLe.keep _ _)
theorem QLe.keep2Nm {k m : Nat} (h : k ≤ m) (q : GS) : QLe (gkeep2N k q) (gkeep2N m q) := by
  induction m with
  | zero => rw [show k = 0 by omega]; exact QLe.rf _
  | succ m ih =>
    by_cases e : k = m + 1
    · rw [e]; exact QLe.rf _
    · rw [gkeep2N]; exact (ih (by omega)).trans (QLe.keep2 _ _)
theorem QLe.both (q : GS) : QLe q (gboth q) := by
  unfold gboth
  exact ((QLe.bth q).trans (QLe.load _ _)).trans (QLe.load _ _)
theorem nI_sb {a b : Nat} (h : b ≤ a) : nI a - nI b = nI (a - b) := by
  have := nI_sub (a - b) b
  rwa [show a - b + b = a by omega] at this
theorem gkeep_kf (k j : Nat) (q : GS) : (gkeep k q).kf j = if j = k then (if (q.kf k).1 = 4 then q.kf k else (4, 0)) else q.kf j := by
  unfold gkeep
  by_cases h : (q.kf k).1 = 4
  · rw [if_pos h, if_pos h]
    split
    · next e => rw [e]
    · rfl
  · rw [if_neg h, if_neg h]
    show va_up (gload k q).kf k (4, 0) j = _
    rw [gload_kf]
    by_cases e : j = k
    · subst e; rw [va_up_self, if_pos rfl]
    · rw [va_up_ne _ _ e, if_neg e]
theorem gbth_5 (q : GS) : ((gbth q).kf (q.d - 1)).1 ≠ 5 := by
  unfold gbth
  split
  · next h =>
    rw [gkeep_kf, if_pos rfl, if_neg (by omega)]
    decide
  · next h => exact h
theorem gkeep2_5 (k : Nat) (q : GS) (h : (q.kf k).1 ≠ 4 ∨ (q.kf (q.d - 1)).1 ≠ 5) : ((gkeep2 k q).kf (q.d - 1)).1 ≠ 5 := by
  unfold gkeep2
  split
  · next h4 => exact h.resolve_left (fun z => z h4)
  · next h4 =>
    rw [gkeep_kf]
    have := gbth_5 q
    split
    · split
      · next h5 => rw [h5]; decide
      · decide
    · exact this

set_option maxHeartbeats 4000000 in
theorem c_GN_held (l : Launch) {E : Bs} (hE : Hb E) {ρ : Nat → Nat} {g A : Nat → Nat → Int32} {n : Nat → Nat} {tx : Value} {q : GS} (hI : GnI q g A n) {less : Nat} (hl : less < q.d) : CW l E DC AC y_GN_held b_GN_held 2 none ({ frames := 0, cells := 0, slots := 0, locals := 0 } : Room) [.ref (E.o 3), .int (nI less)] ρ g A n tx (fun r ρ' g' A' n' tx' => r = none ∧ GnI (gheld less q) g' A' n' ∧ GnF g A n g' A' n' ∧ tx' = tx) := by
  refine CW.start [some (.ref (E.o 3)), some (.int (nI less))] hE (by decide) (Nat.le_of_ble_eq_true rfl) rfl ?_
  intro p e s m args below meth c G
  have hd := hI.dle
  have h17 := hI.n17
  refine v_aload_n G (decAt dd_GN_held 0 rfl) rfl ?_
  refine v_dup G (decAt dd_GN_held 1 rfl) rfl ?_
  refine v_geti G (decAt dd_GN_held 2 rfl) f_GN_44 ?_
  refine v_ri (y := (nI q.d)) hI.dep ?_
  refine v_iload_n G (decAt dd_GN_held 3 rfl) rfl ?_
  refine v_isub G (decAt dd_GN_held 4 rfl) ?_
  refine v_ri (y := (nI (q.d - less))) (nI_sb (by omega)) ?_
  refine v_puti G (decAt dd_GN_held 5 rfl) f_GN_44 rfl rfl rfl ?_
  refine v_aload_n G (decAt dd_GN_held 6 rfl) rfl ?_
  refine v_geta G (decAt dd_GN_held 7 rfl) f_GN_18 ?_
  refine v_aload_n G (decAt dd_GN_held 8 rfl) rfl ?_
  refine v_geti G (decAt dd_GN_held 9 rfl) f_GN_44 ?_
  refine v_ri (y := (nI (q.d - less))) rfl ?_
  refine v_iconst G 1 (decAt dd_GN_held 10 rfl) (by decide) ?_
  refine v_isub G (decAt dd_GN_held 11 rfl) ?_
  refine v_ri (y := (nI (q.d - less - 1))) (nI_sb (b := 1) (by omega)) ?_
  refine v_iconst G 5 (decAt dd_GN_held 12 rfl) (by decide) ?_
  refine v_iast G 17 (q.d - less - 1) (decAt dd_GN_held 13 rfl) (by decide) rfl rfl (by omega) ?_
  exact v_vret G (decAt dd_GN_held 14 rfl) rfl ⟨rfl, ((hI.depth (d := q.d - less) (by omega)).set (k := q.d - less - 1) (x := (5, 0)) (Or.inr (Or.inr (Or.inr rfl))) (by decide)), (((GnF.rf g A n).pg (by decide)).pA (by decide)), rfl⟩
set_option maxHeartbeats 4000000 in
theorem c_GN_grow (l : Launch) {E : Bs} (hE : Hb E) {ρ : Nat → Nat} {g A : Nat → Nat → Int32} {n : Nat → Nat} {tx : Value} {q : GS} (hI : GnI q g A n) : CW l E DC AC y_GN_grow b_GN_grow 3 none ({ frames := 0, cells := 0, slots := 0, locals := 0 } : Room) [.ref (E.o 3)] ρ g A n tx (fun r ρ' g' A' n' tx' => r = none ∧ ρ' = ρ ∧ g' = g ∧ A' = A ∧ n' = n ∧ tx' = tx) := by
  refine CW.start [some (.ref (E.o 3)), none, none] hE (by decide) (Nat.le_of_ble_eq_true rfl) rfl ?_
  intro p e s m args below meth c G
  have hd := hI.dle
  have h17 := hI.n17
  refine v_aload_n G (decAt dd_GN_grow 0 rfl) rfl ?_
  refine v_geti G (decAt dd_GN_grow 1 rfl) f_GN_44 ?_
  refine v_ri (y := (nI q.d)) hI.dep ?_
  refine v_aload_n G (decAt dd_GN_grow 2 rfl) rfl ?_
  refine v_geta G (decAt dd_GN_grow 3 rfl) f_GN_18 ?_
  refine v_alen G 17 (decAt dd_GN_grow 4 rfl) (by decide) ?_
  refine v_ri (y := (nI 64)) (by rw [h17]) ?_
  refine v_icmp_ge G 13 (decAt dd_GN_grow 5 rfl) (by decide) (fun c9 => ?_) (fun c9 => ?_)
  · skip
    exact absurd c9 (nI_ge (a := q.d) (b := 64) (by omega) (by omega))
  · skip
    exact v_vret G (decAt dd_GN_grow 6 rfl) rfl ⟨rfl, rfl, rfl, rfl, rfl, rfl⟩
set_option maxHeartbeats 4000000 in
theorem c_GN_keepAll (l : Launch) {E : Bs} (hE : Hb E) {ρ : Nat → Nat} {g A : Nat → Nat → Int32} {n : Nat → Nat} {tx : Value} {q : GS} (hI : GnI q g A n) (hB : Fit (gkeepAll q)) : CW l E DC AC y_GN_keepAll b_GN_keepAll 2 none ({ frames := 9, cells := 61, slots := 3904, locals := 194 } : Room) [.ref (E.o 3)] ρ g A n tx (fun r ρ' g' A' n' tx' => r = none ∧ GnI (gkeepAll q) g' A' n' ∧ GnF g A n g' A' n' ∧ tx' = tx) := by
  refine CW.start [some (.ref (E.o 3)), none] hE (by decide) (Nat.le_of_ble_eq_true rfl) rfl ?_
  intro p e s m args below meth c G
  have hd := hI.dle
  have hBt : Fit (gtop q) := hB.of (QLe.keepN _ _)
  have J34 : ∀ (d k : Nat) (ρ1 : Nat → Nat) (g1 A1 : Nat → Nat → Int32) (n1 : Nat → Nat), k + d = q.d → GnI (gkeepN k (gtop q)) g1 A1 n1 → GnF g A n g1 A1 n1 → V p l e ({ frames := 9, cells := 61, slots := 3904, locals := 194 } : Room) s m args below meth c 2 (Sy E DC AC s.heap ρ1 g1 A1 n1 tx) (1 + k) (64 + 64 * k) (MQ below (QW E DC AC (fun r ρ' g' A' n' tx' => r = none ∧ GnI (gkeepAll q) g' A' n' ∧ GnF g A n g' A' n' ∧ tx' = tx)) args s 61 3904 E.F) 34 [some (.ref (E.o 3)), some (.int (nI k))] [] := by
    intro d
    induction d with
    | zero =>
      intro k ρ1 g1 A1 n1 hk hI1 hF1
      refine v_iload_n G (decAt dd_GN_keepAll 20 rfl) rfl ?_
      refine v_aload_n G (decAt dd_GN_keepAll 21 rfl) rfl ?_
      refine v_geti G (decAt dd_GN_keepAll 22 rfl) f_GN_44 ?_
      refine v_ri (y := (nI q.d)) (hI1.dep.trans (congrArg nI (by simp only [gline_d, gload_d, gkeep_d, gkeepN_d, gtop_d, gbth_d, gboth_d, gkeepBelow_d, gkeep2_d, gkeep2N_d, gkeepAll_d, gset_d]))) ?_
      refine v_icmp_ge G 53 (decAt dd_GN_keepAll 23 rfl) (by decide) (fun c39 => ?_) (fun c39 => ?_)
      · skip
        have ek : k = q.d := by omega
        subst ek
        refine v_room 61 3904 (by omega) (by omega) ?_
        exact v_vret G (decAt dd_GN_keepAll 29 rfl) rfl ⟨rfl, hI1, hF1, rfl⟩
      · skip
        exact absurd (nI_le (by omega) (by omega)) c39
    | succ d ih =>
      intro k ρ1 g1 A1 n1 hk hI1 hF1
      refine v_iload_n G (decAt dd_GN_keepAll 20 rfl) rfl ?_
      refine v_aload_n G (decAt dd_GN_keepAll 21 rfl) rfl ?_
      refine v_geti G (decAt dd_GN_keepAll 22 rfl) f_GN_44 ?_
      refine v_ri (y := (nI q.d)) (hI1.dep.trans (congrArg nI (by simp only [gline_d, gload_d, gkeep_d, gkeepN_d, gtop_d, gbth_d, gboth_d, gkeepBelow_d, gkeep2_d, gkeep2N_d, gkeepAll_d, gset_d]))) ?_
      refine v_icmp_ge G 53 (decAt dd_GN_keepAll 23 rfl) (by decide) (fun c39 => ?_) (fun c39 => ?_)
      · skip
        exact absurd c39 (nI_ge (by omega) (by omega))
      · skip
        refine v_aload_n G (decAt dd_GN_keepAll 24 rfl) rfl ?_
        refine v_iload_n G (decAt dd_GN_keepAll 25 rfl) rfl ?_
        refine v_callVv G (As := [.int (nI (k))]) (P := fun ρ' g' A' n' tx' => GnI (gkeep (k) (gkeepN k (gtop q))) g' A' n' ∧ GnF g1 A1 n1 g' A' n' ∧ tx' = tx) (rm := ({ frames := 8, cells := 1, slots := 64, locals := 173 } : Room)) (decAt dd_GN_keepAll 26 rfl) k_GN_54 (c_GN_keep l hE hI1 (k := k) (by first | omega | (simp only [gline_d, gload_d, gkeep_d, gkeepN_d, gtop_d, gbth_d, gboth_d, gkeepBelow_d, gkeep2_d, gkeep2N_d, gkeepAll_d, gset_d]; omega)) (hB.of (QLe.keepNm (k := k + 1) (by omega) _))) (by decide) rfl rfl rfl (Nat.le_of_ble_eq_true rfl) (by decide) ⟨by show 1 + k + 1 ≤ 61; omega, by show 64 + 64 * k + 64 ≤ 3904; omega⟩ ?_
        rintro ρ2 g2 A2 n2 tx2 ⟨hI2, hX2, etx⟩
        replace etx := etx.symm; subst etx
        have hF2 := GnF.trans hF1 hX2
        refine v_iinc_1 G (nI (k + 1)) (decAt dd_GN_keepAll 27 rfl) ((nI_1 _)) (by decide) rfl ?_
        refine v_goto G 34 (decAt dd_GN_keepAll 28 rfl) (by decide) ?_
        refine v_room (1 + (k + 1)) (64 + 64 * (k + 1)) (by show 1 + k + 1 ≤ _; omega) (by show 64 + 64 * k + 64 ≤ _; omega) ?_
        exact ih (k + 1) _ _ _ _ (by omega) hI2 hF2
  refine v_aload_n G (decAt dd_GN_keepAll 0 rfl) rfl ?_
  refine v_geti G (decAt dd_GN_keepAll 1 rfl) f_GN_44 ?_
  refine v_ri (y := (nI q.d)) hI.dep ?_
  refine v_if_le G 32 (decAt dd_GN_keepAll 2 rfl) (by decide) (fun c4 => ?_) (fun c4 => ?_)
  · skip
    refine v_iconst G 0 (decAt dd_GN_keepAll 18 rfl) (by decide) ?_
    refine v_istore_1 G (decAt dd_GN_keepAll 19 rfl) (by decide) rfl ?_
    have hgt : gtop q = q := by
      unfold gtop
      by_cases hz : 0 < q.d
      · rw [if_pos hz]
        unfold gbth
        rw [if_neg (fun z => by first | exact c19 (by rw [z]; rfl) | (exact absurd c4 (nI_nle hz (by omega))))]
      · rw [if_neg hz]
    refine v_room (1 + 0) (64 + 64 * 0) (by decide) (by decide) ?_
    exact J34 q.d 0 _ _ _ _ (by omega) (by rw [gkeepN, hgt]; exact hI) (GnF.rf g A n)
  · skip
    have hd0 : 0 < q.d := by
      rcases Nat.eq_zero_or_pos q.d with z | z
      · exact absurd (by rw [z]; decide) c4
      · exact z
    have hkb : (q.kf (q.d - 1)).1 < 10 := by rcases hI.ok (k := q.d - 1) (by omega) with e | e | e | e <;> omega
    refine v_aload_n G (decAt dd_GN_keepAll 3 rfl) rfl ?_
    refine v_geta G (decAt dd_GN_keepAll 4 rfl) f_GN_18 ?_
    refine v_aload_n G (decAt dd_GN_keepAll 5 rfl) rfl ?_
    refine v_geti G (decAt dd_GN_keepAll 6 rfl) f_GN_44 ?_
    refine v_ri (y := (nI q.d)) hI.dep ?_
    refine v_iconst G 1 (decAt dd_GN_keepAll 7 rfl) (by decide) ?_
    refine v_isub G (decAt dd_GN_keepAll 8 rfl) ?_
    refine v_ri (y := (nI (q.d - 1))) (nI_sb (a := q.d) (b := 1) (by omega)) ?_
    refine v_iald G 17 (q.d - 1) (decAt dd_GN_keepAll 9 rfl) (by decide) rfl rfl (by have := hI.n17; omega) ?_
    refine v_ri (y := nI ((q).kf (q.d - 1)).1) (hI.kd (by first | omega | (simp only [gline_d, gload_d, gkeep_d, gkeepN_d, gtop_d, gbth_d, gboth_d, gkeepBelow_d, gkeep2_d, gkeep2N_d, gkeepAll_d, gset_d]; omega))) ?_
    refine v_iconst G 5 (decAt dd_GN_keepAll 10 rfl) (by decide) ?_
    refine v_icmp_ne G 32 (decAt dd_GN_keepAll 11 rfl) (by decide) (fun c19 => ?_) (fun c19 => ?_)
    · skip
      refine v_iconst G 0 (decAt dd_GN_keepAll 18 rfl) (by decide) ?_
      refine v_istore_1 G (decAt dd_GN_keepAll 19 rfl) (by decide) rfl ?_
      have hgt : gtop q = q := by
        unfold gtop
        by_cases hz : 0 < q.d
        · rw [if_pos hz]
          unfold gbth
          rw [if_neg (fun z => by first | exact c19 (by rw [z]; rfl) | (exact absurd c4 (nI_nle hz (by omega))))]
        · rw [if_neg hz]
      refine v_room (1 + 0) (64 + 64 * 0) (by decide) (by decide) ?_
      exact J34 q.d 0 _ _ _ _ (by omega) (by rw [gkeepN, hgt]; exact hI) (GnF.rf g A n)
    · skip
      have h5 : (q.kf (q.d - 1)).1 = 5 := by first | exact (nI_eq (b := 5) (by omega) (by omega)).mp c19 | exact (nI_eq (b := 5) (by omega) (by omega)).mp (Classical.not_not.mp c19)
      have hgt : gtop q = gkeep (q.d - 1) q := by unfold gtop gbth; rw [if_pos hd0, if_pos h5]
      refine v_aload_n G (decAt dd_GN_keepAll 12 rfl) rfl ?_
      refine v_aload_n G (decAt dd_GN_keepAll 13 rfl) rfl ?_
      refine v_geti G (decAt dd_GN_keepAll 14 rfl) f_GN_44 ?_
      refine v_ri (y := (nI q.d)) hI.dep ?_
      refine v_iconst G 1 (decAt dd_GN_keepAll 15 rfl) (by decide) ?_
      refine v_isub G (decAt dd_GN_keepAll 16 rfl) ?_
      refine v_ri (y := (nI (q.d - 1))) (nI_sb (a := q.d) (b := 1) (by omega)) ?_
      refine v_callVv G (As := [.int (nI (q.d - 1))]) (P := fun ρ' g' A' n' tx' => GnI (gkeep (q.d - 1) (q)) g' A' n' ∧ GnF g A n g' A' n' ∧ tx' = tx) (rm := ({ frames := 8, cells := 1, slots := 64, locals := 173 } : Room)) (decAt dd_GN_keepAll 17 rfl) k_GN_54 (c_GN_keep l hE hI (k := q.d - 1) (by omega) (by rw [← hgt]; exact hBt)) (by decide) rfl rfl rfl (Nat.le_of_ble_eq_true rfl) (by decide) (by decide) ?_
      rintro ρ3 g3 A3 n3 tx3 ⟨hI3, hX3, etx⟩
      replace etx := etx.symm; subst etx
      have hF3 := GnF.trans (GnF.rf g A n) hX3
      refine v_iconst G 0 (decAt dd_GN_keepAll 18 rfl) (by decide) ?_
      refine v_istore_1 G (decAt dd_GN_keepAll 19 rfl) (by decide) rfl ?_
      refine v_room (1 + 0) (64 + 64 * 0) (by decide) (by decide) ?_
      exact J34 q.d 0 _ _ _ _ (by omega) (by rw [gkeepN, hgt]; exact hI3) hF3
set_option maxHeartbeats 4000000 in
theorem c_GN_both (l : Launch) {E : Bs} (hE : Hb E) {ρ : Nat → Nat} {g A : Nat → Nat → Int32} {n : Nat → Nat} {tx : Value} {q : GS} (hI : GnI q g A n) (h2 : 2 ≤ q.d) (hB : Fit (gboth q)) : CW l E DC AC y_GN_both b_GN_both 1 none ({ frames := 9, cells := 3, slots := 192, locals := 194 } : Room) [.ref (E.o 3)] ρ g A n tx (fun r ρ' g' A' n' tx' => r = none ∧ GnI (gboth q) g' A' n' ∧ GnF g A n g' A' n' ∧ tx' = tx) := by
  refine CW.start [some (.ref (E.o 3))] hE (by decide) (Nat.le_of_ble_eq_true rfl) rfl ?_
  intro p e s m args below meth c G
  have hd := hI.dle
  have hB1 : Fit (gload (q.d - 2) (gbth q)) := hB.of (QLe.load _ _)
  have hB2 : Fit (gbth q) := hB1.of (QLe.load _ _)
  have hkb : (q.kf (q.d - 1)).1 < 10 := by rcases hI.ok (k := q.d - 1) (by omega) with e | e | e | e <;> omega
  refine v_aload_n G (decAt dd_GN_both 0 rfl) rfl ?_
  refine v_geta G (decAt dd_GN_both 1 rfl) f_GN_18 ?_
  refine v_aload_n G (decAt dd_GN_both 2 rfl) rfl ?_
  refine v_geti G (decAt dd_GN_both 3 rfl) f_GN_44 ?_
  refine v_ri (y := (nI q.d)) hI.dep ?_
  refine v_iconst G 1 (decAt dd_GN_both 4 rfl) (by decide) ?_
  refine v_isub G (decAt dd_GN_both 5 rfl) ?_
  refine v_ri (y := (nI (q.d - 1))) (nI_sb (a := q.d) (b := 1) (by omega)) ?_
  refine v_iald G 17 (q.d - 1) (decAt dd_GN_both 6 rfl) (by decide) rfl rfl (by have := hI.n17; omega) ?_
  refine v_ri (y := nI ((q).kf (q.d - 1)).1) (hI.kd (by first | omega | (simp only [gline_d, gload_d, gkeep_d, gkeepN_d, gtop_d, gbth_d, gboth_d, gkeepBelow_d, gkeep2_d, gkeep2N_d, gkeepAll_d, gset_d]; omega))) ?_
  refine v_iconst G 5 (decAt dd_GN_both 7 rfl) (by decide) ?_
  refine v_icmp_ne G 25 (decAt dd_GN_both 8 rfl) (by decide) (fun c12 => ?_) (fun c12 => ?_)
  · skip
    have hgt : gbth q = q := if_neg (fun z => c12 (by rw [z]; rfl))
    have hJ : GnI (gbth q) g A n := by rw [hgt]; exact hI
    refine v_aload_n G (decAt dd_GN_both 15 rfl) rfl ?_
    refine v_aload_n G (decAt dd_GN_both 16 rfl) rfl ?_
    refine v_geti G (decAt dd_GN_both 17 rfl) f_GN_44 ?_
    refine v_ri (y := (nI q.d)) (hJ.dep.trans (congrArg nI (by simp only [gline_d, gload_d, gkeep_d, gkeepN_d, gtop_d, gbth_d, gboth_d, gkeepBelow_d, gkeep2_d, gkeep2N_d, gkeepAll_d, gset_d]))) ?_
    refine v_iconst G 2 (decAt dd_GN_both 18 rfl) (by decide) ?_
    refine v_isub G (decAt dd_GN_both 19 rfl) ?_
    refine v_ri (y := (nI (q.d - 2))) (nI_sb (a := q.d) (b := 2) (by omega)) ?_
    refine v_callVv G (As := [.int (nI (q.d - 2))]) (P := fun ρ' g' A' n' tx' => GnI (gload (q.d - 2) (gbth q)) g' A' n' ∧ GnF g A n g' A' n' ∧ tx' = tx) (rm := ({ frames := 7, cells := 1, slots := 64, locals := 152 } : Room)) (decAt dd_GN_both 20 rfl) k_GN_107 (c_GN_load l hE hJ (k := q.d - 2) (by first | omega | (simp only [gline_d, gload_d, gkeep_d, gkeepN_d, gtop_d, gbth_d, gboth_d, gkeepBelow_d, gkeep2_d, gkeep2N_d, gkeepAll_d, gset_d]; omega)) hB1) (by decide) rfl rfl rfl (Nat.le_of_ble_eq_true rfl) (by decide) (by decide) ?_
    rintro ρ4 g4 A4 n4 tx4 ⟨hI4, hX4, etx⟩
    replace etx := etx.symm; subst etx
    have hF4 := GnF.trans (GnF.rf g A n) hX4
    refine v_aload_n G (decAt dd_GN_both 21 rfl) rfl ?_
    refine v_aload_n G (decAt dd_GN_both 22 rfl) rfl ?_
    refine v_geti G (decAt dd_GN_both 23 rfl) f_GN_44 ?_
    refine v_ri (y := (nI q.d)) (hI4.dep.trans (congrArg nI (by simp only [gline_d, gload_d, gkeep_d, gkeepN_d, gtop_d, gbth_d, gboth_d, gkeepBelow_d, gkeep2_d, gkeep2N_d, gkeepAll_d, gset_d]))) ?_
    refine v_iconst G 1 (decAt dd_GN_both 24 rfl) (by decide) ?_
    refine v_isub G (decAt dd_GN_both 25 rfl) ?_
    refine v_ri (y := (nI (q.d - 1))) (nI_sb (a := q.d) (b := 1) (by omega)) ?_
    refine v_callVv G (As := [.int (nI (q.d - 1))]) (P := fun ρ' g' A' n' tx' => GnI (gload (q.d - 1) (gload (q.d - 2) (gbth q))) g' A' n' ∧ GnF g4 A4 n4 g' A' n' ∧ tx' = tx) (rm := ({ frames := 7, cells := 1, slots := 64, locals := 152 } : Room)) (decAt dd_GN_both 26 rfl) k_GN_107 (c_GN_load l hE hI4 (k := q.d - 1) (by first | omega | (simp only [gline_d, gload_d, gkeep_d, gkeepN_d, gtop_d, gbth_d, gboth_d, gkeepBelow_d, gkeep2_d, gkeep2N_d, gkeepAll_d, gset_d]; omega)) hB) (by decide) rfl rfl rfl (Nat.le_of_ble_eq_true rfl) (by decide) (by decide) ?_
    rintro ρ5 g5 A5 n5 tx5 ⟨hI5, hX5, etx⟩
    replace etx := etx.symm; subst etx
    have hF5 := GnF.trans hF4 hX5
    refine v_room 3 192 (by decide) (by decide) ?_
    exact v_vret G (decAt dd_GN_both 27 rfl) rfl ⟨rfl, hI5, hF5, rfl⟩
  · skip
    have h5 : (q.kf (q.d - 1)).1 = 5 := by first | exact (nI_eq (b := 5) (by omega) (by omega)).mp c12 | exact (nI_eq (b := 5) (by omega) (by omega)).mp (Classical.not_not.mp c12)
    have hgt : gbth q = gkeep (q.d - 1) q := if_pos h5
    refine v_aload_n G (decAt dd_GN_both 9 rfl) rfl ?_
    refine v_aload_n G (decAt dd_GN_both 10 rfl) rfl ?_
    refine v_geti G (decAt dd_GN_both 11 rfl) f_GN_44 ?_
    refine v_ri (y := (nI q.d)) hI.dep ?_
    refine v_iconst G 1 (decAt dd_GN_both 12 rfl) (by decide) ?_
    refine v_isub G (decAt dd_GN_both 13 rfl) ?_
    refine v_ri (y := (nI (q.d - 1))) (nI_sb (a := q.d) (b := 1) (by omega)) ?_
    refine v_callVv G (As := [.int (nI (q.d - 1))]) (P := fun ρ' g' A' n' tx' => GnI (gkeep (q.d - 1) (q)) g' A' n' ∧ GnF g A n g' A' n' ∧ tx' = tx) (rm := ({ frames := 8, cells := 1, slots := 64, locals := 173 } : Room)) (decAt dd_GN_both 14 rfl) k_GN_54 (c_GN_keep l hE hI (k := q.d - 1) (by omega) (by rw [← hgt]; exact hB2)) (by decide) rfl rfl rfl (Nat.le_of_ble_eq_true rfl) (by decide) (by decide) ?_
    rintro ρ6 g6 A6 n6 tx6 ⟨hI6, hX6, etx⟩
    replace etx := etx.symm; subst etx
    have hF6 := GnF.trans (GnF.rf g A n) hX6
    have hJ : GnI (gbth q) g6 A6 n6 := by rw [hgt]; exact hI6
    refine v_aload_n G (decAt dd_GN_both 15 rfl) rfl ?_
    refine v_aload_n G (decAt dd_GN_both 16 rfl) rfl ?_
    refine v_geti G (decAt dd_GN_both 17 rfl) f_GN_44 ?_
    refine v_ri (y := (nI q.d)) (hJ.dep.trans (congrArg nI (by simp only [gline_d, gload_d, gkeep_d, gkeepN_d, gtop_d, gbth_d, gboth_d, gkeepBelow_d, gkeep2_d, gkeep2N_d, gkeepAll_d, gset_d]))) ?_
    refine v_iconst G 2 (decAt dd_GN_both 18 rfl) (by decide) ?_
    refine v_isub G (decAt dd_GN_both 19 rfl) ?_
    refine v_ri (y := (nI (q.d - 2))) (nI_sb (a := q.d) (b := 2) (by omega)) ?_
    refine v_callVv G (As := [.int (nI (q.d - 2))]) (P := fun ρ' g' A' n' tx' => GnI (gload (q.d - 2) (gbth q)) g' A' n' ∧ GnF g6 A6 n6 g' A' n' ∧ tx' = tx) (rm := ({ frames := 7, cells := 1, slots := 64, locals := 152 } : Room)) (decAt dd_GN_both 20 rfl) k_GN_107 (c_GN_load l hE hJ (k := q.d - 2) (by first | omega | (simp only [gline_d, gload_d, gkeep_d, gkeepN_d, gtop_d, gbth_d, gboth_d, gkeepBelow_d, gkeep2_d, gkeep2N_d, gkeepAll_d, gset_d]; omega)) hB1) (by decide) rfl rfl rfl (Nat.le_of_ble_eq_true rfl) (by decide) (by decide) ?_
    rintro ρ7 g7 A7 n7 tx7 ⟨hI7, hX7, etx⟩
    replace etx := etx.symm; subst etx
    have hF7 := GnF.trans hF6 hX7
    refine v_aload_n G (decAt dd_GN_both 21 rfl) rfl ?_
    refine v_aload_n G (decAt dd_GN_both 22 rfl) rfl ?_
    refine v_geti G (decAt dd_GN_both 23 rfl) f_GN_44 ?_
    refine v_ri (y := (nI q.d)) (hI7.dep.trans (congrArg nI (by simp only [gline_d, gload_d, gkeep_d, gkeepN_d, gtop_d, gbth_d, gboth_d, gkeepBelow_d, gkeep2_d, gkeep2N_d, gkeepAll_d, gset_d]))) ?_
    refine v_iconst G 1 (decAt dd_GN_both 24 rfl) (by decide) ?_
    refine v_isub G (decAt dd_GN_both 25 rfl) ?_
    refine v_ri (y := (nI (q.d - 1))) (nI_sb (a := q.d) (b := 1) (by omega)) ?_
    refine v_callVv G (As := [.int (nI (q.d - 1))]) (P := fun ρ' g' A' n' tx' => GnI (gload (q.d - 1) (gload (q.d - 2) (gbth q))) g' A' n' ∧ GnF g7 A7 n7 g' A' n' ∧ tx' = tx) (rm := ({ frames := 7, cells := 1, slots := 64, locals := 152 } : Room)) (decAt dd_GN_both 26 rfl) k_GN_107 (c_GN_load l hE hI7 (k := q.d - 1) (by first | omega | (simp only [gline_d, gload_d, gkeep_d, gkeepN_d, gtop_d, gbth_d, gboth_d, gkeepBelow_d, gkeep2_d, gkeep2N_d, gkeepAll_d, gset_d]; omega)) hB) (by decide) rfl rfl rfl (Nat.le_of_ble_eq_true rfl) (by decide) (by decide) ?_
    rintro ρ8 g8 A8 n8 tx8 ⟨hI8, hX8, etx⟩
    replace etx := etx.symm; subst etx
    have hF8 := GnF.trans hF7 hX8
    refine v_room 3 192 (by decide) (by decide) ?_
    exact v_vret G (decAt dd_GN_both 27 rfl) rfl ⟨rfl, hI8, hF8, rfl⟩
theorem gcon_mo (v : Int32) (q : GS) : (gcon v q).mo = q.mo := by unfold gcon; split <;> rfl
theorem gload_mo (k : Nat) (q : GS) : (gload k q).mo = q.mo := by
  unfold gload
  split
  · exact gcon_mo _ _
  · split
    · rfl
    · split <;> rfl
theorem gkeep_mo (k : Nat) (q : GS) : (gkeep k q).mo = q.mo := by
  unfold gkeep
  split
  · rfl
  · exact gload_mo k q
theorem maxI_nI {a b : Nat} (ha : a < 2147483648) (hb : b < 2147483648) : maxI (nI a) (nI b) = nI (max a b) := by
  unfold maxI
  by_cases h : a < b
  · rw [if_pos (nI_lt h hb), Nat.max_eq_right (by omega)]
  · rw [if_neg (nI_nlt (by omega) ha), Nat.max_eq_left (by omega)]
theorem GnI.put {q : GS} {g A : Nat → Nat → Int32} {n : Nat → Nat} {K : Nat} {v : Int32} (h : GnI q g A n) (hd : q.d < 60) (hK : K = 0 ∨ K = 1) : GnI (gput (K, v) q) (up2 (up2 g 3 3 (nI (q.d + 1))) 3 4 (nI (max q.mo (q.d + 1)))) (va_up (va_up A 17 (va_up (A 17) q.d (nI K))) 18 (va_up (A 18) q.d v)) n := by
  obtain ⟨⟨h1, h2⟩, h3, ⟨h4, h5⟩, h6, h7, h8, h9, h10, h11, h12, h13⟩ := h
  refine ⟨⟨(up2_ne (by decide)).trans up2_self, by show q.d + 1 ≤ 60; omega⟩, fun j hj => ?_, ⟨((up2_ne (by decide)).trans (up2_ne (by decide))).trans h4, by rw [va_up_ne _ _ (by decide), va_up_ne _ _ (by decide)]; exact h5⟩, ⟨((up2_ne (by decide)).trans (up2_ne (by decide))).trans h6.1, by rw [va_up_ne _ _ (by decide), va_up_ne _ _ (by decide)]; exact h6.2.1, h6.2.2⟩, ((up2_ne (by decide)).trans (up2_ne (by decide))).trans h7, up2_self, ((up2_ne (by decide)).trans (up2_ne (by decide))).trans h9, ((up2_ne (by decide)).trans (up2_ne (by decide))).trans h10, h11, h12, h13⟩
  rw [va_up_self, va_up_ne _ _ (show (17 : Nat) ≠ 18 by decide), va_up_self]
  show va_up (A 17) q.d (nI K) j = nI (va_up q.kf q.d (K, v) j).1 ∧ ((va_up q.kf q.d (K, v) j).1 < 4 → va_up (A 18) q.d v j = (va_up q.kf q.d (K, v) j).2) ∧ kOK (va_up q.kf q.d (K, v) j).1
  by_cases e : j = q.d
  · rw [e, va_up_self, va_up_self, va_up_self]
    exact ⟨rfl, fun _ => rfl, hK.elim (fun z => Or.inl z) (fun z => Or.inr (Or.inl z))⟩
  · rw [va_up_ne _ _ e, va_up_ne _ _ e, va_up_ne _ _ e]
    exact h3 j (by have : j < q.d + 1 := hj; omega)
set_option maxHeartbeats 4000000 in
theorem c_GN_push (l : Launch) {E : Bs} (hE : Hb E) {ρ : Nat → Nat} {g A : Nat → Nat → Int32} {n : Nat → Nat} {tx : Value} {q : GS} (hI : GnI q g A n) {K : Nat} {v : Int32} (hK : K = 0 ∨ K = 1) (h60 : q.d < 60) (hm60 : q.mo ≤ 60) (hB : Fit (gpush (K, v) q)) : CW l E DC AC y_GN_push b_GN_push 3 none ({ frames := 9, cells := 1, slots := 64, locals := 194 } : Room) [.ref (E.o 3), .int (nI K), .int v] ρ g A n tx (fun r ρ' g' A' n' tx' => r = none ∧ GnI (gpush (K, v) q) g' A' n' ∧ GnF g A n g' A' n' ∧ tx' = tx) := by
  refine CW.start [some (.ref (E.o 3)), some (.int (nI K)), some (.int v)] hE (by decide) (Nat.le_of_ble_eq_true rfl) rfl ?_
  intro p e s m args below meth c G
  have hd := hI.dle
  have hBt : Fit (gtop q) := hB
  have J32 : ∀ (ρ1 : Nat → Nat) (g1 A1 : Nat → Nat → Int32) (n1 : Nat → Nat), GnI (gtop q) g1 A1 n1 → GnF g A n g1 A1 n1 → (gtop q).mo = q.mo → V p l e ({ frames := 9, cells := 1, slots := 64, locals := 194 } : Room) s m args below meth c 3 (Sy E DC AC s.heap ρ1 g1 A1 n1 tx) 1 64 (MQ below (QW E DC AC (fun r ρ' g' A' n' tx' => r = none ∧ GnI (gpush (K, v) q) g' A' n' ∧ GnF g A n g' A' n' ∧ tx' = tx)) args s 1 64 E.F) 32 [some (.ref (E.o 3)), some (.int (nI K)), some (.int v)] [] := by
    intro ρ1 g1 A1 n1 hI1 hF1 hmo
    have h17 := hI1.n17
    have h18 := hI1.n18
    have hdd := gtop_d q

    refine v_aload_n G (decAt dd_GN_push 18 rfl) rfl ?_
    refine v_callVvs G (As := []) (decAt dd_GN_push 19 rfl) k_GN_58 (c_GN_grow l hE hI1) (by decide) rfl rfl rfl (Nat.le_of_ble_eq_true rfl) (by decide) rfl rfl (by decide) ?_
    refine v_aload_n G (decAt dd_GN_push 20 rfl) rfl ?_
    refine v_geta G (decAt dd_GN_push 21 rfl) f_GN_18 ?_
    refine v_aload_n G (decAt dd_GN_push 22 rfl) rfl ?_
    refine v_geti G (decAt dd_GN_push 23 rfl) f_GN_44 ?_
    refine v_ri (y := (nI q.d)) (hI1.dep.trans (congrArg nI (by simp only [gline_d, gload_d, gkeep_d, gkeepN_d, gtop_d, gbth_d, gboth_d, gkeepBelow_d, gkeep2_d, gkeep2N_d, gkeepAll_d, gset_d]))) ?_
    refine v_iload_n G (decAt dd_GN_push 24 rfl) rfl ?_
    refine v_iast G 17 q.d (decAt dd_GN_push 25 rfl) (by decide) rfl rfl (by omega) ?_
    refine v_aload_n G (decAt dd_GN_push 26 rfl) rfl ?_
    refine v_geta G (decAt dd_GN_push 27 rfl) f_GN_22 ?_
    refine v_aload_n G (decAt dd_GN_push 28 rfl) rfl ?_
    refine v_geti G (decAt dd_GN_push 29 rfl) f_GN_44 ?_
    refine v_ri (y := (nI q.d)) (hI1.dep.trans (congrArg nI (by simp only [gline_d, gload_d, gkeep_d, gkeepN_d, gtop_d, gbth_d, gboth_d, gkeepBelow_d, gkeep2_d, gkeep2N_d, gkeepAll_d, gset_d]))) ?_
    refine v_iload_n G (decAt dd_GN_push 30 rfl) rfl ?_
    refine v_iast G 18 q.d (decAt dd_GN_push 31 rfl) (by decide) rfl rfl (by omega) ?_
    refine v_aload_n G (decAt dd_GN_push 32 rfl) rfl ?_
    refine v_dup G (decAt dd_GN_push 33 rfl) rfl ?_
    refine v_geti G (decAt dd_GN_push 34 rfl) f_GN_44 ?_
    refine v_ri (y := (nI q.d)) (hI1.dep.trans (congrArg nI (by simp only [gline_d, gload_d, gkeep_d, gkeepN_d, gtop_d, gbth_d, gboth_d, gkeepBelow_d, gkeep2_d, gkeep2N_d, gkeepAll_d, gset_d]))) ?_
    refine v_iconst G 1 (decAt dd_GN_push 35 rfl) (by decide) ?_
    refine v_iadd G (decAt dd_GN_push 36 rfl) ?_
    refine v_ri (y := (nI (q.d + 1))) (nI_1 _) ?_
    refine v_puti G (decAt dd_GN_push 37 rfl) f_GN_44 rfl rfl rfl ?_
    refine v_aload_n G (decAt dd_GN_push 38 rfl) rfl ?_
    refine v_aload_n G (decAt dd_GN_push 39 rfl) rfl ?_
    refine v_geti G (decAt dd_GN_push 40 rfl) f_GN_61 ?_
    refine v_ri (y := (nI q.mo)) ((up2_ne (by decide)).trans (hI1.most.trans (by rw [hmo]))) ?_
    refine v_aload_n G (decAt dd_GN_push 41 rfl) rfl ?_
    refine v_geti G (decAt dd_GN_push 42 rfl) f_GN_44 ?_
    refine v_ri (y := (nI (q.d + 1))) rfl ?_
    refine p_callSi G (XB_Sy G) (As := [.int (nI q.mo), .int (nI (q.d + 1))]) (decAt dd_GN_push 43 rfl) k_GN_64 (c_MA_max l hE) rfl rfl (Nat.le_of_ble_eq_true rfl) (by decide) rfl rfl (by decide) ?_
    refine v_ri (y := nI (max q.mo (q.d + 1))) (maxI_nI (by omega) (by omega)) ?_
    refine v_puti G (decAt dd_GN_push 44 rfl) f_GN_61 rfl rfl rfl ?_
    have hres := hI1.put (K := K) (v := v) (by omega) hK
    rw [hdd, hmo] at hres
    refine v_room 1 64 (by omega) (by omega) ?_
    exact v_vret G (decAt dd_GN_push 45 rfl) rfl ⟨rfl, hres, ((((hF1.pA (i := 17) (by decide)).pA (i := 18) (by decide)).pg (k := 3) (f := 3) (by decide)).pg (k := 3) (f := 4) (by decide)), rfl⟩
  refine v_aload_n G (decAt dd_GN_push 0 rfl) rfl ?_
  refine v_geti G (decAt dd_GN_push 1 rfl) f_GN_44 ?_
  refine v_ri (y := (nI q.d)) hI.dep ?_
  refine v_if_le G 32 (decAt dd_GN_push 2 rfl) (by decide) (fun c4 => ?_) (fun c4 => ?_)
  · skip
    have hgt : gtop q = q := by
      unfold gtop
      by_cases hz : 0 < q.d
      · rw [if_pos hz]
        unfold gbth
        rw [if_neg (fun z => by first | exact c19 (by rw [z]; rfl) | (exact absurd c4 (nI_nle hz (by omega))))]
      · rw [if_neg hz]
    refine v_room 1 64 (by decide) (by decide) ?_
    exact J32 _ _ _ _ (by rw [hgt]; exact hI) (GnF.rf g A n) (by rw [hgt])
  · skip
    have hd0 : 0 < q.d := by
      rcases Nat.eq_zero_or_pos q.d with z | z
      · exact absurd (by rw [z]; decide) c4
      · exact z
    have hkb : (q.kf (q.d - 1)).1 < 10 := by rcases hI.ok (k := q.d - 1) (by omega) with e | e | e | e <;> omega
    refine v_aload_n G (decAt dd_GN_push 3 rfl) rfl ?_
    refine v_geta G (decAt dd_GN_push 4 rfl) f_GN_18 ?_
    refine v_aload_n G (decAt dd_GN_push 5 rfl) rfl ?_
    refine v_geti G (decAt dd_GN_push 6 rfl) f_GN_44 ?_
    refine v_ri (y := (nI q.d)) hI.dep ?_
    refine v_iconst G 1 (decAt dd_GN_push 7 rfl) (by decide) ?_
    refine v_isub G (decAt dd_GN_push 8 rfl) ?_
    refine v_ri (y := (nI (q.d - 1))) (nI_sb (a := q.d) (b := 1) (by omega)) ?_
    refine v_iald G 17 (q.d - 1) (decAt dd_GN_push 9 rfl) (by decide) rfl rfl (by have := hI.n17; omega) ?_
    refine v_ri (y := nI ((q).kf (q.d - 1)).1) (hI.kd (by first | omega | (simp only [gline_d, gload_d, gkeep_d, gkeepN_d, gtop_d, gbth_d, gboth_d, gkeepBelow_d, gkeep2_d, gkeep2N_d, gkeepAll_d, gset_d]; omega))) ?_
    refine v_iconst G 5 (decAt dd_GN_push 10 rfl) (by decide) ?_
    refine v_icmp_ne G 32 (decAt dd_GN_push 11 rfl) (by decide) (fun c19 => ?_) (fun c19 => ?_)
    · skip
      have hgt : gtop q = q := by
        unfold gtop
        by_cases hz : 0 < q.d
        · rw [if_pos hz]
          unfold gbth
          rw [if_neg (fun z => by first | exact c19 (by rw [z]; rfl) | (exact absurd c4 (nI_nle hz (by omega))))]
        · rw [if_neg hz]
      refine v_room 1 64 (by decide) (by decide) ?_
      exact J32 _ _ _ _ (by rw [hgt]; exact hI) (GnF.rf g A n) (by rw [hgt])
    · skip
      have h5 : (q.kf (q.d - 1)).1 = 5 := by first | exact (nI_eq (b := 5) (by omega) (by omega)).mp c19 | exact (nI_eq (b := 5) (by omega) (by omega)).mp (Classical.not_not.mp c19)
      have hgt : gtop q = gkeep (q.d - 1) q := by unfold gtop gbth; rw [if_pos hd0, if_pos h5]
      refine v_aload_n G (decAt dd_GN_push 12 rfl) rfl ?_
      refine v_aload_n G (decAt dd_GN_push 13 rfl) rfl ?_
      refine v_geti G (decAt dd_GN_push 14 rfl) f_GN_44 ?_
      refine v_ri (y := (nI q.d)) hI.dep ?_
      refine v_iconst G 1 (decAt dd_GN_push 15 rfl) (by decide) ?_
      refine v_isub G (decAt dd_GN_push 16 rfl) ?_
      refine v_ri (y := (nI (q.d - 1))) (nI_sb (a := q.d) (b := 1) (by omega)) ?_
      refine v_callVv G (As := [.int (nI (q.d - 1))]) (P := fun ρ' g' A' n' tx' => GnI (gkeep (q.d - 1) (q)) g' A' n' ∧ GnF g A n g' A' n' ∧ tx' = tx) (rm := ({ frames := 8, cells := 1, slots := 64, locals := 173 } : Room)) (decAt dd_GN_push 17 rfl) k_GN_54 (c_GN_keep l hE hI (k := q.d - 1) (by omega) (by rw [← hgt]; exact hBt)) (by decide) rfl rfl rfl (Nat.le_of_ble_eq_true rfl) (by decide) (by decide) ?_
      rintro ρ9 g9 A9 n9 tx9 ⟨hI9, hX9, etx⟩
      replace etx := etx.symm; subst etx
      have hF9 := GnF.trans (GnF.rf g A n) hX9
      refine v_room 1 64 (by decide) (by decide) ?_
      exact J32 _ _ _ _ (by rw [hgt]; exact hI9) hF9 (by rw [hgt]; exact gkeep_mo _ _)
