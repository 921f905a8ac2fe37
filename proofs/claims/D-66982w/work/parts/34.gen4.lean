/-! Generator: goes, one -/
def gre (b : Bool) (q : GS) : GS := (q.d, q.kf, q.ls, q.gr, q.mo, b, q.sa)
def gsa (b : Bool) (q : GS) : GS := (q.d, q.kf, q.ls, q.gr, q.mo, q.re, b)
def glab (dl : Nat) (q : GS) : GS := (dl, fun _ => (4, 0), q.ls, q.gr, max q.mo dl, q.re, q.sa)
def ggoes (n : Nat) (a : Int32) (dl : Nat) (q : GS) : GS :=
  if n = 10 then gre false (gline 13 a (gkeepAll q))
  else if n = 13 then gline 14 a (gre true (glab dl (if q.re = true then gkeepAll q else q)))
  else if q.sa = true then gsa false q
  else gline (if n = 12 then 12 else 15) a (gdep (q.d - 1) (gload (q.d - 1) (gkeepAll q)))
def gone (n : Nat) (a fo : Int32) (dl : Nat) (q : GS) : GS := match n with
  | 0 => gpush (0, a) q
  | 1 => gpush (1, a) q
  | 2 => gstores a q
  | 3 => gsingle 1 q
  | 4 => gindirect q
  | 5 => gsingle 2 q
  | 6 => gsingle 3 q
  | 7 => gpair (20 + a) q
  | 8 => gpair (40 + a) q
  | 9 => gchain a q
  | 14 => gdep (q.d - 1) q
  | 15 => gline 9 9 q
  | 16 => gre false (gdep (q.d - 1) (gline 9 4 (gload (q.d - 1) q)))
  | 17 => gre false (gline 9 10 q)
  | 18 => gsa true (gline 12 fo (gline 9 40 (gcon a (gload (q.d - 1) (gkeepAll q)))))
  | 19 => gpair 6 q
  | 20 => gbytes q
  | n => ggoes n a dl q
theorem QLe.keepAll (q : GS) : QLe q (gkeepAll q) := (QLe.top q).trans (QLe.keepN _ _)
theorem gkeepAll_mo (q : GS) : (gkeepAll q).mo = q.mo := by
  have h1 : (gtop q).mo = q.mo := by
    unfold gtop gbth
    split
    · split
      · exact gkeep_mo _ _
      · rfl
    · rfl
  have h2 : ∀ k, (gkeepN k (gtop q)).mo = q.mo := by
    intro k
    induction k with
    | zero => exact h1
    | succ k ih => rw [gkeepN, gkeep_mo, ih]
  exact h2 _
section GN4
variable {q : GS} {g A : Nat → Nat → Int32} {n : Nat → Nat}
theorem GnI.pre (b : Bool) {v : Int32} (h : GnI q g A n) (hv : v = bI b) : GnI (gre b q) (up2 g 3 6 v) A n := by
  obtain ⟨⟨h1, h2⟩, h3, ⟨h4, h5⟩, h6, h7, h8, h9, h10, h11, h12, h13⟩ := h
  exact ⟨⟨(up2_ne (by decide)).trans h1, h2⟩, h3, ⟨(up2_ne (by decide)).trans h4, h5⟩, ⟨(up2_ne (by decide)).trans h6.1, h6.2⟩, (up2_ne (by decide)).trans h7, (up2_ne (by decide)).trans h8, by rw [up2_self, hv]; rfl, (up2_ne (by decide)).trans h10, h11, h12, h13⟩
theorem GnI.psa (b : Bool) {v : Int32} (h : GnI q g A n) (hv : v = bI b) : GnI (gsa b q) (up2 g 3 15 v) A n := by
  obtain ⟨⟨h1, h2⟩, h3, ⟨h4, h5⟩, h6, h7, h8, h9, h10, h11, h12, h13⟩ := h
  exact ⟨⟨(up2_ne (by decide)).trans h1, h2⟩, h3, ⟨(up2_ne (by decide)).trans h4, h5⟩, ⟨(up2_ne (by decide)).trans h6.1, h6.2⟩, (up2_ne (by decide)).trans h7, (up2_ne (by decide)).trans h8, (up2_ne (by decide)).trans h9, by rw [up2_self, hv]; rfl, h11, h12, h13⟩
theorem GnI.plab {dl : Nat} {A' : Nat → Nat → Int32} (h : GnI q g A n) (hd : dl ≤ 60) (hk : ∀ j, j < dl → A' 17 j = nI 4) (hA : ∀ i, i ≠ 17 → A' i = A i) : GnI (glab dl q) (up2 (up2 g 3 3 (nI dl)) 3 4 (nI (max q.mo dl))) A' n := by
  obtain ⟨⟨h1, h2⟩, h3, ⟨h4, h5⟩, h6, h7, h8, h9, h10, h11, h12, h13⟩ := h
  exact ⟨⟨(up2_ne (by decide)).trans up2_self, hd⟩, fun k hk2 => ⟨hk k hk2, fun z => absurd z (by show ¬ (4 : Nat) < 4; decide), Or.inr (Or.inr (Or.inl rfl))⟩, ⟨((up2_ne (by decide)).trans (up2_ne (by decide))).trans h4, by rw [hA 25 (by decide)]; exact h5⟩, ⟨((up2_ne (by decide)).trans (up2_ne (by decide))).trans h6.1, by rw [hA 20 (by decide)]; exact h6.2.1, h6.2.2⟩, ((up2_ne (by decide)).trans (up2_ne (by decide))).trans h7, up2_self, ((up2_ne (by decide)).trans (up2_ne (by decide))).trans h9, ((up2_ne (by decide)).trans (up2_ne (by decide))).trans h10, h11, h12, h13⟩
end GN4

set_option maxHeartbeats 4000000 in
theorem c_GN_grow0 (l : Launch) {E : Bs} (hE : Hb E) {ρ : Nat → Nat} {g A : Nat → Nat → Int32} {n : Nat → Nat} {tx : Value} {d : Nat} (hdp : g 3 3 = nI d) (hd : d < 64) (h17 : n 17 = 64) : CW l E DC AC y_GN_grow b_GN_grow 3 none ({ frames := 0, cells := 0, slots := 0, locals := 0 } : Room) [.ref (E.o 3)] ρ g A n tx (fun r ρ' g' A' n' tx' => r = none ∧ ρ' = ρ ∧ g' = g ∧ A' = A ∧ n' = n ∧ tx' = tx) := by
  refine CW.start [some (.ref (E.o 3)), none, none] hE (by decide) (Nat.le_of_ble_eq_true rfl) rfl ?_
  intro p e s m args below meth c G
  refine v_aload_n G (decAt dd_GN_grow 0 rfl) rfl ?_
  refine v_geti G (decAt dd_GN_grow 1 rfl) f_GN_44 ?_
  refine v_ri (y := (nI d)) hdp ?_
  refine v_aload_n G (decAt dd_GN_grow 2 rfl) rfl ?_
  refine v_geta G (decAt dd_GN_grow 3 rfl) f_GN_18 ?_
  refine v_alen G 17 (decAt dd_GN_grow 4 rfl) (by decide) ?_
  refine v_ri (y := (nI 64)) (by rw [h17]) ?_
  refine v_icmp_ge G 13 (decAt dd_GN_grow 5 rfl) (by decide) (fun c9 => ?_) (fun c9 => ?_)
  · skip
    exact absurd c9 (nI_ge (a := d) (b := 64) (by omega) (by omega))
  · skip
    exact v_vret G (decAt dd_GN_grow 6 rfl) rfl ⟨rfl, rfl, rfl, rfl, rfl, rfl⟩
set_option maxHeartbeats 4000000 in
theorem c_GN_goes (l : Launch) {E : Bs} (hE : Hb E) {ρ : Nat → Nat} {g A : Nat → Nat → Int32} {n : Nat → Nat} {tx : Value} {q : GS} (hI : GnI q g A n) {N dl : Nat} {a : Int32} (hN : N = 10 ∨ N = 11 ∨ N = 12 ∨ N = 13) (hd1 : N = 11 ∨ N = 12 → q.sa = false → 1 ≤ q.d) (hmo : q.mo ≤ 60) (hla : N = 13 → dl ≤ 60 ∧ ∃ y : Nat, a = nI y ∧ y < n 19 ∧ A 19 y = nI (dl + 1)) (hB : Fit (ggoes N a dl q)) : CW l E DC AC y_GN_goes b_GN_goes 4 none ({ frames := 10, cells := 62, slots := 3968, locals := 215 } : Room) [.ref (E.o 3), .int (stv 2 N), .int a] ρ g A n tx (fun r ρ' g' A' n' tx' => r = none ∧ GnI (ggoes N a dl q) g' A' n' ∧ GnF g A n g' A' n' ∧ tx' = tx) := by
  refine CW.start [some (.ref (E.o 3)), some (.int (stv 2 N)), some (.int a), none] hE (by decide) (Nat.le_of_ble_eq_true rfl) rfl ?_
  intro p e s m args below meth c G
  have hd := hI.dle
  rcases hN with rfl | rfl | rfl | rfl
  · skip
    refine v_L (L' := [some (.ref (E.o 3)), some (.int (nI 13)), some (.int a), none]) (fun _ _ z => z) ?_
    have hgl : ggoes 10 a dl q = gre false (gline 13 a (gkeepAll q)) := if_pos rfl
    rw [hgl] at hB ⊢
    have hB1 : Fit (gline 13 a (gkeepAll q)) := hB
    have hB2 := hB1.of (QLe.line _ _ _)
    refine v_iload_n G (decAt dd_GN_goes 0 rfl) rfl ?_
    refine v_lsw G (off := 35) 36 (decAt dd_GN_goes 1 rfl) (by decide) (by decide) (by decide) ?_
    refine v_aload_n G (decAt dd_GN_goes 2 rfl) rfl ?_
    refine v_callVv G (As := []) (P := fun ρ' g' A' n' tx' => GnI (gkeepAll (q)) g' A' n' ∧ GnF g A n g' A' n' ∧ tx' = tx) (rm := ({ frames := 9, cells := 61, slots := 3904, locals := 194 } : Room)) (decAt dd_GN_goes 3 rfl) k_GN_184 (c_GN_keepAll l hE hI hB2) (by decide) rfl rfl rfl (Nat.le_of_ble_eq_true rfl) (by decide) (by decide) ?_
    rintro ρ301 g301 A301 n301 tx301 ⟨hI301, hX301, etx⟩
    replace etx := etx.symm; subst etx
    have hF301 := GnF.trans (GnF.rf g A n) hX301
    refine v_aload_n G (decAt dd_GN_goes 4 rfl) rfl ?_
    refine q_ldcs G (i := 13) (decAt dd_GN_goes 5 rfl) rfl rfl rfl ?_
    refine v_iload_n G (decAt dd_GN_goes 6 rfl) rfl ?_
    refine v_callVv G (As := [.ref (E.st (10 + 13)), .int a]) (P := fun ρ' g' A' n' tx' => GnI (gline 13 a (gkeepAll (q))) g' A' n' ∧ GnF g301 A301 n301 g' A' n' ∧ tx' = tx) (rm := ({ frames := 5, cells := 0, slots := 0, locals := 107 } : Room)) (decAt dd_GN_goes 7 rfl) k_GN_84 (c_GN_lineG l hE hI301 (i := 13) (v := a) (by decide) hB1) (by decide) rfl rfl rfl (Nat.le_of_ble_eq_true rfl) (by decide) (by decide) ?_
    rintro ρ302 g302 A302 n302 tx302 ⟨hI302, hX302, etx⟩
    replace etx := etx.symm; subst etx
    have hF302 := GnF.trans hF301 hX302
    refine v_aload_n G (decAt dd_GN_goes 8 rfl) rfl ?_
    refine v_iconst G 0 (decAt dd_GN_goes 9 rfl) (by decide) ?_
    refine v_puti G (decAt dd_GN_goes 10 rfl) f_GN_143 rfl rfl rfl ?_
    refine v_goto G 221 (decAt dd_GN_goes 11 rfl) (by decide) ?_
    refine v_room 62 3968 (by decide) (by decide) ?_
    exact v_vret G (decAt dd_GN_goes 101 rfl) rfl ⟨rfl, (hI302.pre false rfl), (hF302.pg (by decide)), rfl⟩
  · cases hsa : q.sa with
    | true =>
      refine v_L (L' := [some (.ref (E.o 3)), some (.int (nI 14)), some (.int a), none]) (fun _ _ z => z) ?_
      have hgl : ggoes 11 a dl q = gsa false q := by unfold ggoes; rw [if_neg (by decide), if_neg (by decide), if_pos hsa]
      rw [hgl] at hB ⊢
      refine v_iload_n G (decAt dd_GN_goes 0 rfl) rfl ?_
      refine v_lsw G (off := 163) 164 (decAt dd_GN_goes 1 rfl) (by decide) (by decide) (by decide) ?_
      refine v_aload_n G (decAt dd_GN_goes 71 rfl) rfl ?_
      refine v_geti G (decAt dd_GN_goes 72 rfl) f_GN_189 ?_
      refine v_ri (y := 1) (by rw [hI.sam, hsa]; rfl) ?_
      refine v_if_eq G 179 (decAt dd_GN_goes 73 rfl) (by decide) (fun c168 => absurd c168 (by decide)) (fun _ => ?_)
      refine v_aload_n G (decAt dd_GN_goes 74 rfl) rfl ?_
      refine v_iconst G 0 (decAt dd_GN_goes 75 rfl) (by decide) ?_
      refine v_puti G (decAt dd_GN_goes 76 rfl) f_GN_189 rfl rfl rfl ?_
      refine v_goto G 221 (decAt dd_GN_goes 77 rfl) (by decide) ?_
      refine v_room 62 3968 (by decide) (by decide) ?_
      exact v_vret G (decAt dd_GN_goes 101 rfl) rfl ⟨rfl, (hI.psa false rfl), ((GnF.rf g A n).pg (by decide)), rfl⟩
    | false =>
      refine v_L (L' := [some (.ref (E.o 3)), some (.int (nI 14)), some (.int a), none]) (fun _ _ z => z) ?_
      have hgl : ggoes 11 a dl q = gline 15 a (gdep (q.d - 1) (gload (q.d - 1) (gkeepAll q))) := by unfold ggoes; rw [if_neg (by decide), if_neg (by decide), if_neg (by rw [hsa]; decide)]; rfl
      rw [hgl] at hB ⊢
      have h1 : 1 ≤ q.d := hd1 (by decide) hsa
      have hB1 : Fit (gdep (q.d - 1) (gload (q.d - 1) (gkeepAll q))) := hB.of (QLe.line _ _ _)
      have hB2 : Fit (gload (q.d - 1) (gkeepAll q)) := hB1
      have hB3 := hB2.of (QLe.load _ _)
      refine v_iload_n G (decAt dd_GN_goes 0 rfl) rfl ?_
      refine v_lsw G (off := 163) 164 (decAt dd_GN_goes 1 rfl) (by decide) (by decide) (by decide) ?_
      refine v_aload_n G (decAt dd_GN_goes 71 rfl) rfl ?_
      refine v_geti G (decAt dd_GN_goes 72 rfl) f_GN_189 ?_
      refine v_ri (y := 0) (by rw [hI.sam, hsa]; rfl) ?_
      refine v_if_eq G 179 (decAt dd_GN_goes 73 rfl) (by decide) (fun _ => ?_) (fun c168 => absurd c168 (by decide))
      refine v_aload_n G (decAt dd_GN_goes 78 rfl) rfl ?_
      refine v_callVv G (As := []) (P := fun ρ' g' A' n' tx' => GnI (gkeepAll (q)) g' A' n' ∧ GnF g A n g' A' n' ∧ tx' = tx) (rm := ({ frames := 9, cells := 61, slots := 3904, locals := 194 } : Room)) (decAt dd_GN_goes 79 rfl) k_GN_184 (c_GN_keepAll l hE hI hB3) (by decide) rfl rfl rfl (Nat.le_of_ble_eq_true rfl) (by decide) (by decide) ?_
      rintro ρ303 g303 A303 n303 tx303 ⟨hI303, hX303, etx⟩
      replace etx := etx.symm; subst etx
      have hF303 := GnF.trans (GnF.rf g A n) hX303
      refine v_aload_n G (decAt dd_GN_goes 80 rfl) rfl ?_
      refine v_aload_n G (decAt dd_GN_goes 81 rfl) rfl ?_
      refine v_geti G (decAt dd_GN_goes 82 rfl) f_GN_44 ?_
      refine v_ri (y := (nI q.d)) (hI303.dep.trans (congrArg nI (by simp only [gline_d, gload_d, gkeep_d, gkeepN_d, gtop_d, gbth_d, gboth_d, gkeepBelow_d, gkeep2_d, gkeep2N_d, gkeepAll_d, gset_d]))) ?_
      refine v_iconst G 1 (decAt dd_GN_goes 83 rfl) (by decide) ?_
      refine v_isub G (decAt dd_GN_goes 84 rfl) ?_
      refine v_ri (y := (nI (q.d - 1))) (nI_sb (a := q.d) (b := 1) (by omega)) ?_
      refine v_callVv G (As := [.int (nI (q.d - 1))]) (P := fun ρ' g' A' n' tx' => GnI (gload (q.d - 1) (gkeepAll (q))) g' A' n' ∧ GnF g303 A303 n303 g' A' n' ∧ tx' = tx) (rm := ({ frames := 7, cells := 1, slots := 64, locals := 152 } : Room)) (decAt dd_GN_goes 85 rfl) k_GN_107 (c_GN_load l hE hI303 (k := q.d - 1) (by first | omega | (simp only [gline_d, gload_d, gkeep_d, gkeepN_d, gtop_d, gbth_d, gboth_d, gkeepBelow_d, gkeep2_d, gkeep2N_d, gkeepAll_d, gset_d]; omega)) hB2) (by decide) rfl rfl rfl (Nat.le_of_ble_eq_true rfl) (by decide) (by decide) ?_
      rintro ρ304 g304 A304 n304 tx304 ⟨hI304, hX304, etx⟩
      replace etx := etx.symm; subst etx
      have hF304 := GnF.trans hF303 hX304
      refine v_aload_n G (decAt dd_GN_goes 86 rfl) rfl ?_
      refine v_dup G (decAt dd_GN_goes 87 rfl) rfl ?_
      refine v_geti G (decAt dd_GN_goes 88 rfl) f_GN_44 ?_
      refine v_ri (y := (nI q.d)) (hI304.dep.trans (congrArg nI (by simp only [gline_d, gload_d, gkeep_d, gkeepN_d, gtop_d, gbth_d, gboth_d, gkeepBelow_d, gkeep2_d, gkeep2N_d, gkeepAll_d, gset_d]))) ?_
      refine v_iconst G 1 (decAt dd_GN_goes 89 rfl) (by decide) ?_
      refine v_isub G (decAt dd_GN_goes 90 rfl) ?_
      refine v_ri (y := (nI (q.d - 1))) (nI_sb (a := q.d) (b := 1) (by omega)) ?_
      refine v_puti G (decAt dd_GN_goes 91 rfl) f_GN_44 rfl rfl rfl ?_
      have hJ := hI304.depth (d := q.d - 1) (by first | omega | (simp only [gline_d, gload_d, gkeep_d, gkeepN_d, gtop_d, gbth_d, gboth_d, gkeepBelow_d, gkeep2_d, gkeep2N_d, gkeepAll_d, gset_d]; omega))
      refine v_aload_n G (decAt dd_GN_goes 92 rfl) rfl ?_
      refine v_iload_n G (decAt dd_GN_goes 93 rfl) rfl ?_
      refine v_bipush G 15 (decAt dd_GN_goes 94 rfl) (by decide) ?_
      refine v_icmp_ne G 215 (decAt dd_GN_goes 95 rfl) (by decide) (fun _ => ?_) (fun c207 => absurd c207 (by decide))
      refine q_ldcs G (i := 15) (decAt dd_GN_goes 98 rfl) rfl rfl rfl ?_
      refine v_iload_n G (decAt dd_GN_goes 99 rfl) rfl ?_
      refine v_callVv G (As := [.ref (E.st (10 + 15)), .int a]) (P := fun ρ' g' A' n' tx' => GnI (gline 15 a (gdep (q.d - 1) (gload (q.d - 1) (gkeepAll q)))) g' A' n' ∧ GnF (up2 g304 3 3 (nI (q.d - 1))) A304 n304 g' A' n' ∧ tx' = tx) (rm := ({ frames := 5, cells := 0, slots := 0, locals := 107 } : Room)) (decAt dd_GN_goes 100 rfl) k_GN_84 (c_GN_lineG l hE hJ (i := 15) (v := a) (by decide) hB) (by decide) rfl rfl rfl (Nat.le_of_ble_eq_true rfl) (by decide) (by decide) ?_
      rintro ρ305 g305 A305 n305 tx305 ⟨hI305, hX305, etx⟩
      replace etx := etx.symm; subst etx
      have hF305 := GnF.trans (hF304.pg (k := 3) (f := 3) (by decide)) hX305
      refine v_room 62 3968 (by decide) (by decide) ?_
      exact v_vret G (decAt dd_GN_goes 101 rfl) rfl ⟨rfl, hI305, hF305, rfl⟩
  · cases hsa : q.sa with
    | true =>
      refine v_L (L' := [some (.ref (E.o 3)), some (.int (nI 15)), some (.int a), none]) (fun _ _ z => z) ?_
      have hgl : ggoes 12 a dl q = gsa false q := by unfold ggoes; rw [if_neg (by decide), if_neg (by decide), if_pos hsa]
      rw [hgl] at hB ⊢
      refine v_iload_n G (decAt dd_GN_goes 0 rfl) rfl ?_
      refine v_lsw G (off := 163) 164 (decAt dd_GN_goes 1 rfl) (by decide) (by decide) (by decide) ?_
      refine v_aload_n G (decAt dd_GN_goes 71 rfl) rfl ?_
      refine v_geti G (decAt dd_GN_goes 72 rfl) f_GN_189 ?_
      refine v_ri (y := 1) (by rw [hI.sam, hsa]; rfl) ?_
      refine v_if_eq G 179 (decAt dd_GN_goes 73 rfl) (by decide) (fun c168 => absurd c168 (by decide)) (fun _ => ?_)
      refine v_aload_n G (decAt dd_GN_goes 74 rfl) rfl ?_
      refine v_iconst G 0 (decAt dd_GN_goes 75 rfl) (by decide) ?_
      refine v_puti G (decAt dd_GN_goes 76 rfl) f_GN_189 rfl rfl rfl ?_
      refine v_goto G 221 (decAt dd_GN_goes 77 rfl) (by decide) ?_
      refine v_room 62 3968 (by decide) (by decide) ?_
      exact v_vret G (decAt dd_GN_goes 101 rfl) rfl ⟨rfl, (hI.psa false rfl), ((GnF.rf g A n).pg (by decide)), rfl⟩
    | false =>
      refine v_L (L' := [some (.ref (E.o 3)), some (.int (nI 15)), some (.int a), none]) (fun _ _ z => z) ?_
      have hgl : ggoes 12 a dl q = gline 12 a (gdep (q.d - 1) (gload (q.d - 1) (gkeepAll q))) := by unfold ggoes; rw [if_neg (by decide), if_neg (by decide), if_neg (by rw [hsa]; decide)]; rfl
      rw [hgl] at hB ⊢
      have h1 : 1 ≤ q.d := hd1 (by decide) hsa
      have hB1 : Fit (gdep (q.d - 1) (gload (q.d - 1) (gkeepAll q))) := hB.of (QLe.line _ _ _)
      have hB2 : Fit (gload (q.d - 1) (gkeepAll q)) := hB1
      have hB3 := hB2.of (QLe.load _ _)
      refine v_iload_n G (decAt dd_GN_goes 0 rfl) rfl ?_
      refine v_lsw G (off := 163) 164 (decAt dd_GN_goes 1 rfl) (by decide) (by decide) (by decide) ?_
      refine v_aload_n G (decAt dd_GN_goes 71 rfl) rfl ?_
      refine v_geti G (decAt dd_GN_goes 72 rfl) f_GN_189 ?_
      refine v_ri (y := 0) (by rw [hI.sam, hsa]; rfl) ?_
      refine v_if_eq G 179 (decAt dd_GN_goes 73 rfl) (by decide) (fun _ => ?_) (fun c168 => absurd c168 (by decide))
      refine v_aload_n G (decAt dd_GN_goes 78 rfl) rfl ?_
      refine v_callVv G (As := []) (P := fun ρ' g' A' n' tx' => GnI (gkeepAll (q)) g' A' n' ∧ GnF g A n g' A' n' ∧ tx' = tx) (rm := ({ frames := 9, cells := 61, slots := 3904, locals := 194 } : Room)) (decAt dd_GN_goes 79 rfl) k_GN_184 (c_GN_keepAll l hE hI hB3) (by decide) rfl rfl rfl (Nat.le_of_ble_eq_true rfl) (by decide) (by decide) ?_
      rintro ρ306 g306 A306 n306 tx306 ⟨hI306, hX306, etx⟩
      replace etx := etx.symm; subst etx
      have hF306 := GnF.trans (GnF.rf g A n) hX306
      refine v_aload_n G (decAt dd_GN_goes 80 rfl) rfl ?_
      refine v_aload_n G (decAt dd_GN_goes 81 rfl) rfl ?_
      refine v_geti G (decAt dd_GN_goes 82 rfl) f_GN_44 ?_
      refine v_ri (y := (nI q.d)) (hI306.dep.trans (congrArg nI (by simp only [gline_d, gload_d, gkeep_d, gkeepN_d, gtop_d, gbth_d, gboth_d, gkeepBelow_d, gkeep2_d, gkeep2N_d, gkeepAll_d, gset_d]))) ?_
      refine v_iconst G 1 (decAt dd_GN_goes 83 rfl) (by decide) ?_
      refine v_isub G (decAt dd_GN_goes 84 rfl) ?_
      refine v_ri (y := (nI (q.d - 1))) (nI_sb (a := q.d) (b := 1) (by omega)) ?_
      refine v_callVv G (As := [.int (nI (q.d - 1))]) (P := fun ρ' g' A' n' tx' => GnI (gload (q.d - 1) (gkeepAll (q))) g' A' n' ∧ GnF g306 A306 n306 g' A' n' ∧ tx' = tx) (rm := ({ frames := 7, cells := 1, slots := 64, locals := 152 } : Room)) (decAt dd_GN_goes 85 rfl) k_GN_107 (c_GN_load l hE hI306 (k := q.d - 1) (by first | omega | (simp only [gline_d, gload_d, gkeep_d, gkeepN_d, gtop_d, gbth_d, gboth_d, gkeepBelow_d, gkeep2_d, gkeep2N_d, gkeepAll_d, gset_d]; omega)) hB2) (by decide) rfl rfl rfl (Nat.le_of_ble_eq_true rfl) (by decide) (by decide) ?_
      rintro ρ307 g307 A307 n307 tx307 ⟨hI307, hX307, etx⟩
      replace etx := etx.symm; subst etx
      have hF307 := GnF.trans hF306 hX307
      refine v_aload_n G (decAt dd_GN_goes 86 rfl) rfl ?_
      refine v_dup G (decAt dd_GN_goes 87 rfl) rfl ?_
      refine v_geti G (decAt dd_GN_goes 88 rfl) f_GN_44 ?_
      refine v_ri (y := (nI q.d)) (hI307.dep.trans (congrArg nI (by simp only [gline_d, gload_d, gkeep_d, gkeepN_d, gtop_d, gbth_d, gboth_d, gkeepBelow_d, gkeep2_d, gkeep2N_d, gkeepAll_d, gset_d]))) ?_
      refine v_iconst G 1 (decAt dd_GN_goes 89 rfl) (by decide) ?_
      refine v_isub G (decAt dd_GN_goes 90 rfl) ?_
      refine v_ri (y := (nI (q.d - 1))) (nI_sb (a := q.d) (b := 1) (by omega)) ?_
      refine v_puti G (decAt dd_GN_goes 91 rfl) f_GN_44 rfl rfl rfl ?_
      have hJ := hI307.depth (d := q.d - 1) (by first | omega | (simp only [gline_d, gload_d, gkeep_d, gkeepN_d, gtop_d, gbth_d, gboth_d, gkeepBelow_d, gkeep2_d, gkeep2N_d, gkeepAll_d, gset_d]; omega))
      refine v_aload_n G (decAt dd_GN_goes 92 rfl) rfl ?_
      refine v_iload_n G (decAt dd_GN_goes 93 rfl) rfl ?_
      refine v_bipush G 15 (decAt dd_GN_goes 94 rfl) (by decide) ?_
      refine v_icmp_ne G 215 (decAt dd_GN_goes 95 rfl) (by decide) (fun c207 => absurd c207 (by decide)) (fun _ => ?_)
      refine q_ldcs G (i := 12) (decAt dd_GN_goes 96 rfl) rfl rfl rfl ?_
      refine v_goto G 217 (decAt dd_GN_goes 97 rfl) (by decide) ?_
      refine v_iload_n G (decAt dd_GN_goes 99 rfl) rfl ?_
      refine v_callVv G (As := [.ref (E.st (10 + 12)), .int a]) (P := fun ρ' g' A' n' tx' => GnI (gline 12 a (gdep (q.d - 1) (gload (q.d - 1) (gkeepAll q)))) g' A' n' ∧ GnF (up2 g307 3 3 (nI (q.d - 1))) A307 n307 g' A' n' ∧ tx' = tx) (rm := ({ frames := 5, cells := 0, slots := 0, locals := 107 } : Room)) (decAt dd_GN_goes 100 rfl) k_GN_84 (c_GN_lineG l hE hJ (i := 12) (v := a) (by decide) hB) (by decide) rfl rfl rfl (Nat.le_of_ble_eq_true rfl) (by decide) (by decide) ?_
      rintro ρ308 g308 A308 n308 tx308 ⟨hI308, hX308, etx⟩
      replace etx := etx.symm; subst etx
      have hF308 := GnF.trans (hF307.pg (k := 3) (f := 3) (by decide)) hX308
      refine v_room 62 3968 (by decide) (by decide) ?_
      exact v_vret G (decAt dd_GN_goes 101 rfl) rfl ⟨rfl, hI308, hF308, rfl⟩
  · skip
    obtain ⟨hdl, y, rfl, hy, hy2⟩ := hla rfl
    have hgl : ggoes 13 (nI y) dl q = gline 14 (nI y) (gre true (glab dl (if q.re = true then gkeepAll q else q))) := by unfold ggoes; rw [if_neg (by decide), if_pos rfl]
    rw [hgl] at hB ⊢
    have hBa : Fit (if q.re = true then gkeepAll q else q) := hB.of (QLe.line _ _ _)
    have J128 : ∀ (d k : Nat) (ρ1 : Nat → Nat) (g1 A1 A2 : Nat → Nat → Int32) (n1 : Nat → Nat), k + d = dl → GnI (if q.re = true then gkeepAll q else q) g1 A1 n1 → GnF g A n g1 A1 n1 → (∀ j, j < k → A2 17 j = nI 4) → (∀ i, i ≠ 17 → A2 i = A1 i) → V p l e ({ frames := 10, cells := 62, slots := 3968, locals := 215 } : Room) s m args below meth c 4 (Sy E DC AC s.heap ρ1 (up2 (up2 g1 3 3 (nI dl)) 3 4 (nI (max q.mo dl))) A2 n1 tx) 62 3968 (MQ below (QW E DC AC (fun r ρ' g' A' n' tx' => r = none ∧ GnI (gline 14 (nI y) (gre true (glab dl (if q.re = true then gkeepAll q else q)))) g' A' n' ∧ GnF g A n g' A' n' ∧ tx' = tx)) args s 62 3968 E.F) 128 [some (.ref (E.o 3)), some (.int (nI 22)), some (.int (nI y)), some (.int (nI k))] [] := by
      have hmoA : (if q.re = true then gkeepAll q else q).mo = q.mo := by split; exact gkeepAll_mo q; rfl
      intro d
      induction d with
      | zero =>
        intro k ρ1 g1 A1 A2 n1 hk hI1 hF1 hz hfr
        refine v_iload_n G (decAt dd_GN_goes 52 rfl) rfl ?_
        refine v_aload_n G (decAt dd_GN_goes 53 rfl) rfl ?_
        refine v_geti G (decAt dd_GN_goes 54 rfl) f_GN_44 ?_
        refine v_ri (y := (nI dl)) ((up2_ne (by decide)).trans up2_self) ?_
        refine v_icmp_ge G 149 (decAt dd_GN_goes 55 rfl) (by decide) (fun c133 => ?_) (fun c133 => ?_)
        · skip
          refine v_aload_n G (decAt dd_GN_goes 63 rfl) rfl ?_
          refine v_iconst G 1 (decAt dd_GN_goes 64 rfl) (by decide) ?_
          refine v_puti G (decAt dd_GN_goes 65 rfl) f_GN_143 rfl rfl rfl ?_
          have hP := hI1.plab (dl := dl) (A' := A2) hdl (fun j hj => hz j (by omega)) hfr
          rw [hmoA] at hP
          have hJ := hP.pre true (v := 1) rfl
          have hFJ : GnF g A n (up2 (up2 (up2 g1 3 3 (nI dl)) 3 4 (nI (max q.mo dl))) 3 6 1) A2 n1 := ⟨fun k f a b => by rw [up2_ne (by omega), up2_ne (by omega), up2_ne (by omega)]; exact hF1.1 k f a b, fun i a b c d => (hfr i a).trans (hF1.2.1 i a b c d), hF1.2.2⟩
          refine v_aload_n G (decAt dd_GN_goes 66 rfl) rfl ?_
          refine q_ldcs G (i := 14) (decAt dd_GN_goes 67 rfl) rfl rfl rfl ?_
          refine v_iload_n G (decAt dd_GN_goes 68 rfl) rfl ?_
          refine v_callVv G (As := [.ref (E.st (10 + 14)), .int (nI y)]) (P := fun ρ' g' A' n' tx' => GnI (gline 14 (nI y) (gre true (glab dl (if q.re = true then gkeepAll q else q)))) g' A' n' ∧ GnF (up2 (up2 (up2 g1 3 3 (nI dl)) 3 4 (nI (max q.mo dl))) 3 6 1) A2 n1 g' A' n' ∧ tx' = tx) (rm := ({ frames := 5, cells := 0, slots := 0, locals := 107 } : Room)) (decAt dd_GN_goes 69 rfl) k_GN_84 (c_GN_lineG l hE hJ (i := 14) (v := nI y) (by decide) hB) (by decide) rfl rfl rfl (Nat.le_of_ble_eq_true rfl) (by decide) (by decide) ?_
          rintro ρ309 g309 A309 n309 tx309 ⟨hI309, hX309, etx⟩
          replace etx := etx.symm; subst etx
          have hF309 := GnF.trans hFJ hX309
          refine v_goto G 221 (decAt dd_GN_goes 70 rfl) (by decide) ?_
          refine v_room 62 3968 (by decide) (by decide) ?_
          exact v_vret G (decAt dd_GN_goes 101 rfl) rfl ⟨rfl, hI309, hF309, rfl⟩
        · skip
          exact absurd (nI_le (by omega) (by omega)) c133
      | succ d ih =>
        intro k ρ1 g1 A1 A2 n1 hk hI1 hF1 hz hfr
        refine v_iload_n G (decAt dd_GN_goes 52 rfl) rfl ?_
        refine v_aload_n G (decAt dd_GN_goes 53 rfl) rfl ?_
        refine v_geti G (decAt dd_GN_goes 54 rfl) f_GN_44 ?_
        refine v_ri (y := (nI dl)) ((up2_ne (by decide)).trans up2_self) ?_
        refine v_icmp_ge G 149 (decAt dd_GN_goes 55 rfl) (by decide) (fun c133 => ?_) (fun c133 => ?_)
        · skip
          exact absurd c133 (nI_ge (by omega) (by omega))
        · skip
          refine v_aload_n G (decAt dd_GN_goes 56 rfl) rfl ?_
          refine v_geta G (decAt dd_GN_goes 57 rfl) f_GN_18 ?_
          refine v_iload_n G (decAt dd_GN_goes 58 rfl) rfl ?_
          refine v_iconst G 4 (decAt dd_GN_goes 59 rfl) (by decide) ?_
          refine v_iast G 17 k (decAt dd_GN_goes 60 rfl) (by decide) rfl rfl (by have := hI1.n17; omega) ?_
          refine v_iinc_3 G (nI (k + 1)) (decAt dd_GN_goes 61 rfl) ((nI_1 _)) (by decide) rfl ?_
          refine v_goto G 128 (decAt dd_GN_goes 62 rfl) (by decide) ?_
          refine ih (k + 1) ρ1 g1 A1 _ n1 (by omega) hI1 hF1 (fun j hj => ?_) (fun i hi => by rw [va_up_ne _ _ hi]; exact hfr i hi)
          rw [va_up_self]
          by_cases e : j = k
          · subst e; exact va_up_self _ _ _
          · rw [va_up_ne _ _ e]; exact hz j (by omega)
    cases hre : q.re with
    | true =>
      refine v_L (L' := [some (.ref (E.o 3)), some (.int (nI 22)), some (.int (nI y)), none]) (fun _ _ z => z) ?_
      have hqa : (if q.re = true then gkeepAll q else q) = gkeepAll q := by rw [hre]; rfl
      rw [hqa] at hBa J128
      refine v_iload_n G (decAt dd_GN_goes 0 rfl) rfl ?_
      refine v_lsw G (off := 83) 84 (decAt dd_GN_goes 1 rfl) (by decide) (by decide) (by decide) ?_
      refine v_aload_n G (decAt dd_GN_goes 28 rfl) rfl ?_
      refine v_geti G (decAt dd_GN_goes 29 rfl) f_GN_143 ?_
      refine v_ri (y := 1) (by rw [hI.rea, hre]; rfl) ?_
      refine v_if_eq G 95 (decAt dd_GN_goes 30 rfl) (by decide) (fun c88 => absurd c88 (by decide)) (fun _ => ?_)
      refine v_aload_n G (decAt dd_GN_goes 31 rfl) rfl ?_
      refine v_callVv G (As := []) (P := fun ρ' g' A' n' tx' => GnI (gkeepAll (q)) g' A' n' ∧ GnF g A n g' A' n' ∧ tx' = tx) (rm := ({ frames := 9, cells := 61, slots := 3904, locals := 194 } : Room)) (decAt dd_GN_goes 32 rfl) k_GN_184 (c_GN_keepAll l hE hI hBa) (by decide) rfl rfl rfl (Nat.le_of_ble_eq_true rfl) (by decide) (by decide) ?_
      rintro ρ310 g310 A310 n310 tx310 ⟨hI310, hX310, etx⟩
      replace etx := etx.symm; subst etx
      have hF310 := GnF.trans (GnF.rf g A n) hX310
      refine v_aload_n G (decAt dd_GN_goes 33 rfl) rfl ?_
      refine v_aload_n G (decAt dd_GN_goes 34 rfl) rfl ?_
      refine v_geta G (decAt dd_GN_goes 35 rfl) f_GN_25 ?_
      refine v_iload_n G (decAt dd_GN_goes 36 rfl) rfl ?_
      refine v_iald G 19 y (decAt dd_GN_goes 37 rfl) (by decide) rfl rfl (by rw [hF310.2.2 19 (by decide)]; exact hy) ?_
      refine v_ri (y := nI (dl + 1)) (by rw [hF310.2.1 19 (by decide) (by decide) (by decide) (by decide)]; exact hy2) ?_
      refine v_iconst G 1 (decAt dd_GN_goes 38 rfl) (by decide) ?_
      refine v_isub G (decAt dd_GN_goes 39 rfl) ?_
      refine v_ri (y := (nI dl)) (nI_pred dl) ?_
      refine v_puti G (decAt dd_GN_goes 40 rfl) f_GN_44 rfl rfl rfl ?_
      refine v_aload_n G (decAt dd_GN_goes 41 rfl) rfl ?_
      refine v_aload_n G (decAt dd_GN_goes 42 rfl) rfl ?_
      refine v_geti G (decAt dd_GN_goes 43 rfl) f_GN_61 ?_
      refine v_ri (y := nI q.mo) ((up2_ne (by decide)).trans (hI310.most.trans (by rw [gkeepAll_mo]))) ?_
      refine v_aload_n G (decAt dd_GN_goes 44 rfl) rfl ?_
      refine v_geti G (decAt dd_GN_goes 45 rfl) f_GN_44 ?_
      refine v_ri (y := (nI dl)) rfl ?_
      refine p_callSi G (XB_Sy G) (As := [.int (nI q.mo), .int (nI dl)]) (decAt dd_GN_goes 46 rfl) k_GN_64 (c_MA_max l hE) rfl rfl (Nat.le_of_ble_eq_true rfl) (by decide) rfl rfl (by decide) ?_
      refine v_ri (y := nI (max q.mo dl)) (maxI_nI (by omega) (by omega)) ?_
      refine v_puti G (decAt dd_GN_goes 47 rfl) f_GN_61 rfl rfl rfl ?_
      refine v_aload_n G (decAt dd_GN_goes 48 rfl) rfl ?_
      refine v_callVvs G (As := []) (decAt dd_GN_goes 49 rfl) k_GN_58 (c_GN_grow0 l hE (d := dl) ((up2_ne (by decide)).trans up2_self) (by omega) hI310.n17) (by decide) rfl rfl rfl (Nat.le_of_ble_eq_true rfl) (by decide) rfl rfl (by decide) ?_
      refine v_iconst G 0 (decAt dd_GN_goes 50 rfl) (by decide) ?_
      refine v_istore_3 G (decAt dd_GN_goes 51 rfl) (by decide) rfl ?_
      refine v_room 62 3968 (by decide) (by decide) ?_
      exact J128 dl 0 _ _ A310 _ _ (by omega) hI310 hF310 (fun j hj => absurd hj (by omega)) (fun _ _ => rfl)
    | false =>
      refine v_L (L' := [some (.ref (E.o 3)), some (.int (nI 22)), some (.int (nI y)), none]) (fun _ _ z => z) ?_
      have hqa : (if q.re = true then gkeepAll q else q) = q := by rw [hre]; rfl
      rw [hqa] at hBa J128
      refine v_iload_n G (decAt dd_GN_goes 0 rfl) rfl ?_
      refine v_lsw G (off := 83) 84 (decAt dd_GN_goes 1 rfl) (by decide) (by decide) (by decide) ?_
      refine v_aload_n G (decAt dd_GN_goes 28 rfl) rfl ?_
      refine v_geti G (decAt dd_GN_goes 29 rfl) f_GN_143 ?_
      refine v_ri (y := 0) (by rw [hI.rea, hre]; rfl) ?_
      refine v_if_eq G 95 (decAt dd_GN_goes 30 rfl) (by decide) (fun _ => ?_) (fun c88 => absurd c88 (by decide))
      refine v_aload_n G (decAt dd_GN_goes 33 rfl) rfl ?_
      refine v_aload_n G (decAt dd_GN_goes 34 rfl) rfl ?_
      refine v_geta G (decAt dd_GN_goes 35 rfl) f_GN_25 ?_
      refine v_iload_n G (decAt dd_GN_goes 36 rfl) rfl ?_
      refine v_iald G 19 y (decAt dd_GN_goes 37 rfl) (by decide) rfl rfl (by exact hy) ?_
      refine v_ri (y := nI (dl + 1)) (by exact hy2) ?_
      refine v_iconst G 1 (decAt dd_GN_goes 38 rfl) (by decide) ?_
      refine v_isub G (decAt dd_GN_goes 39 rfl) ?_
      refine v_ri (y := (nI dl)) (nI_pred dl) ?_
      refine v_puti G (decAt dd_GN_goes 40 rfl) f_GN_44 rfl rfl rfl ?_
      refine v_aload_n G (decAt dd_GN_goes 41 rfl) rfl ?_
      refine v_aload_n G (decAt dd_GN_goes 42 rfl) rfl ?_
      refine v_geti G (decAt dd_GN_goes 43 rfl) f_GN_61 ?_
      refine v_ri (y := nI q.mo) ((up2_ne (by decide)).trans (hI.most.trans (by rfl))) ?_
      refine v_aload_n G (decAt dd_GN_goes 44 rfl) rfl ?_
      refine v_geti G (decAt dd_GN_goes 45 rfl) f_GN_44 ?_
      refine v_ri (y := (nI dl)) rfl ?_
      refine p_callSi G (XB_Sy G) (As := [.int (nI q.mo), .int (nI dl)]) (decAt dd_GN_goes 46 rfl) k_GN_64 (c_MA_max l hE) rfl rfl (Nat.le_of_ble_eq_true rfl) (by decide) rfl rfl (by decide) ?_
      refine v_ri (y := nI (max q.mo dl)) (maxI_nI (by omega) (by omega)) ?_
      refine v_puti G (decAt dd_GN_goes 47 rfl) f_GN_61 rfl rfl rfl ?_
      refine v_aload_n G (decAt dd_GN_goes 48 rfl) rfl ?_
      refine v_callVvs G (As := []) (decAt dd_GN_goes 49 rfl) k_GN_58 (c_GN_grow0 l hE (d := dl) ((up2_ne (by decide)).trans up2_self) (by omega) hI.n17) (by decide) rfl rfl rfl (Nat.le_of_ble_eq_true rfl) (by decide) rfl rfl (by decide) ?_
      refine v_iconst G 0 (decAt dd_GN_goes 50 rfl) (by decide) ?_
      refine v_istore_3 G (decAt dd_GN_goes 51 rfl) (by decide) rfl ?_
      refine v_room 62 3968 (by decide) (by decide) ?_
      exact J128 dl 0 _ _ A _ _ (by omega) hI (GnF.rf g A n) (fun j hj => absurd hj (by omega)) (fun _ _ => rfl)
