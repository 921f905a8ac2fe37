/-! Generator: keepBelow, keep2, single, pair, chain, stores, indirect, bytes -/
set_option maxHeartbeats 4000000 in
theorem c_GN_keepBelow (l : Launch) {E : Bs} (hE : Hb E) {ρ : Nat → Nat} {g A : Nat → Nat → Int32} {n : Nat → Nat} {tx : Value} {q : GS} (hI : GnI q g A n) (h1 : 1 ≤ q.d) (hB : Fit (gkeepBelow q)) : CW l E DC AC y_GN_keepBelow b_GN_keepBelow 2 none ({ frames := 9, cells := 61, slots := 3904, locals := 194 } : Room) [.ref (E.o 3)] ρ g A n tx (fun r ρ' g' A' n' tx' => r = none ∧ GnI (gkeepBelow q) g' A' n' ∧ GnF g A n g' A' n' ∧ tx' = tx) := by
  refine CW.start [some (.ref (E.o 3)), none] hE (by decide) (Nat.le_of_ble_eq_true rfl) rfl ?_
  intro p e s m args below meth c G
  have hd := hI.dle
  have hBt : Fit (if 1 < q.d then gbth q else q) := hB.of (QLe.keepN _ _)
  have hdt : (if 1 < q.d then gbth q else q).d = q.d := by split; exact gbth_d q; rfl
  have hkb : (q.kf (q.d - 1)).1 < 10 := by rcases hI.ok (k := q.d - 1) (by omega) with e | e | e | e <;> omega
  have J35 : ∀ (d k : Nat) (ρ1 : Nat → Nat) (g1 A1 : Nat → Nat → Int32) (n1 : Nat → Nat), k + 1 + d = q.d → GnI (gkeepN k (if 1 < q.d then gbth q else q)) g1 A1 n1 → GnF g A n g1 A1 n1 → V p l e ({ frames := 9, cells := 61, slots := 3904, locals := 194 } : Room) s m args below meth c 2 (Sy E DC AC s.heap ρ1 g1 A1 n1 tx) (1 + k) (64 + 64 * k) (MQ below (QW E DC AC (fun r ρ' g' A' n' tx' => r = none ∧ GnI (gkeepBelow q) g' A' n' ∧ GnF g A n g' A' n' ∧ tx' = tx)) args s 61 3904 E.F) 35 [some (.ref (E.o 3)), some (.int (nI k))] [] := by
    intro d
    induction d with
    | zero =>
      intro k ρ1 g1 A1 n1 hk hI1 hF1
      have hdep : g1 3 3 = nI q.d := hI1.dep.trans (congrArg nI ((gkeepN_d _ _).trans hdt))
      refine v_iload_n G (decAt dd_GN_keepBelow 21 rfl) rfl ?_
      refine v_iconst G 1 (decAt dd_GN_keepBelow 22 rfl) (by decide) ?_
      refine v_iadd G (decAt dd_GN_keepBelow 23 rfl) ?_
      refine v_ri (y := (nI (k + 1))) (nI_1 _) ?_
      refine v_aload_n G (decAt dd_GN_keepBelow 24 rfl) rfl ?_
      refine v_geti G (decAt dd_GN_keepBelow 25 rfl) f_GN_44 ?_
      refine v_ri (y := (nI q.d)) hdep ?_
      refine v_icmp_ge G 56 (decAt dd_GN_keepBelow 26 rfl) (by decide) (fun c42 => ?_) (fun c42 => ?_)
      · skip
        have ek : k = q.d - 1 := by omega
        subst ek
        refine v_room 61 3904 (by omega) (by omega) ?_
        exact v_vret G (decAt dd_GN_keepBelow 32 rfl) rfl ⟨rfl, hI1, hF1, rfl⟩
      · skip
        exact absurd (nI_le (by omega) (by omega)) c42
    | succ d ih =>
      intro k ρ1 g1 A1 n1 hk hI1 hF1
      have hdep : g1 3 3 = nI q.d := hI1.dep.trans (congrArg nI ((gkeepN_d _ _).trans hdt))
      refine v_iload_n G (decAt dd_GN_keepBelow 21 rfl) rfl ?_
      refine v_iconst G 1 (decAt dd_GN_keepBelow 22 rfl) (by decide) ?_
      refine v_iadd G (decAt dd_GN_keepBelow 23 rfl) ?_
      refine v_ri (y := (nI (k + 1))) (nI_1 _) ?_
      refine v_aload_n G (decAt dd_GN_keepBelow 24 rfl) rfl ?_
      refine v_geti G (decAt dd_GN_keepBelow 25 rfl) f_GN_44 ?_
      refine v_ri (y := (nI q.d)) hdep ?_
      refine v_icmp_ge G 56 (decAt dd_GN_keepBelow 26 rfl) (by decide) (fun c42 => ?_) (fun c42 => ?_)
      · skip
        exact absurd c42 (nI_ge (by omega) (by omega))
      · skip
        refine v_aload_n G (decAt dd_GN_keepBelow 27 rfl) rfl ?_
        refine v_iload_n G (decAt dd_GN_keepBelow 28 rfl) rfl ?_
        refine v_callVv G (As := [.int (nI (k))]) (P := fun ρ' g' A' n' tx' => GnI (gkeep (k) (gkeepN k (if 1 < q.d then gbth q else q))) g' A' n' ∧ GnF g1 A1 n1 g' A' n' ∧ tx' = tx) (rm := ({ frames := 8, cells := 1, slots := 64, locals := 173 } : Room)) (decAt dd_GN_keepBelow 29 rfl) k_GN_54 (c_GN_keep l hE hI1 (k := k) (by rw [gkeepN_d, hdt]; omega) (hB.of (QLe.keepNm (k := k + 1) (by omega) _))) (by decide) rfl rfl rfl (Nat.le_of_ble_eq_true rfl) (by decide) ⟨by show 1 + k + 1 ≤ 61; omega, by show 64 + 64 * k + 64 ≤ 3904; omega⟩ ?_
        rintro ρ101 g101 A101 n101 tx101 ⟨hI101, hX101, etx⟩
        replace etx := etx.symm; subst etx
        have hF101 := GnF.trans hF1 hX101
        refine v_iinc_1 G (nI (k + 1)) (decAt dd_GN_keepBelow 30 rfl) ((nI_1 _)) (by decide) rfl ?_
        refine v_goto G 35 (decAt dd_GN_keepBelow 31 rfl) (by decide) ?_
        refine v_room (1 + (k + 1)) (64 + 64 * (k + 1)) (by show 1 + k + 1 ≤ _; omega) (by show 64 + 64 * k + 64 ≤ _; omega) ?_
        exact ih (k + 1) _ _ _ _ (by omega) hI101 hF101
  refine v_aload_n G (decAt dd_GN_keepBelow 0 rfl) rfl ?_
  refine v_geta G (decAt dd_GN_keepBelow 1 rfl) f_GN_18 ?_
  refine v_aload_n G (decAt dd_GN_keepBelow 2 rfl) rfl ?_
  refine v_geti G (decAt dd_GN_keepBelow 3 rfl) f_GN_44 ?_
  refine v_ri (y := (nI q.d)) hI.dep ?_
  refine v_iconst G 1 (decAt dd_GN_keepBelow 4 rfl) (by decide) ?_
  refine v_isub G (decAt dd_GN_keepBelow 5 rfl) ?_
  refine v_ri (y := (nI (q.d - 1))) (nI_sb (a := q.d) (b := 1) (by omega)) ?_
  refine v_iald G 17 (q.d - 1) (decAt dd_GN_keepBelow 6 rfl) (by decide) rfl rfl (by have := hI.n17; omega) ?_
  refine v_ri (y := nI ((q).kf (q.d - 1)).1) (hI.kd (by first | omega | (simp only [gline_d, gload_d, gkeep_d, gkeepN_d, gtop_d, gbth_d, gboth_d, gkeepBelow_d, gkeep2_d, gkeep2N_d, gkeepAll_d, gset_d]; omega))) ?_
  refine v_iconst G 5 (decAt dd_GN_keepBelow 7 rfl) (by decide) ?_
  refine v_icmp_ne G 33 (decAt dd_GN_keepBelow 8 rfl) (by decide) (fun c12 => ?_) (fun c12 => ?_)
  · skip
    refine v_iconst G 0 (decAt dd_GN_keepBelow 19 rfl) (by decide) ?_
    refine v_istore_1 G (decAt dd_GN_keepBelow 20 rfl) (by decide) rfl ?_
    have hgt : (if 1 < q.d then gbth q else q) = q := by
      by_cases hz : 1 < q.d
      · rw [if_pos hz]
        unfold gbth
        rw [if_neg (fun z => by first | exact c12 (by rw [z]; rfl) | (exact absurd (nI_lt (a := 1) hz (by omega)) (Int32.not_lt.mpr c20)))]
      · rw [if_neg hz]
    refine v_room (1 + 0) (64 + 64 * 0) (by decide) (by decide) ?_
    exact J35 (q.d - 1) 0 _ _ _ _ (by omega) (by rw [gkeepN, hgt]; exact hI) (GnF.rf g A n)
  · skip
    refine v_aload_n G (decAt dd_GN_keepBelow 9 rfl) rfl ?_
    refine v_geti G (decAt dd_GN_keepBelow 10 rfl) f_GN_44 ?_
    refine v_ri (y := (nI q.d)) hI.dep ?_
    refine v_iconst G 1 (decAt dd_GN_keepBelow 11 rfl) (by decide) ?_
    refine v_icmp_le G 33 (decAt dd_GN_keepBelow 12 rfl) (by decide) (fun c20 => ?_) (fun c20 => ?_)
    · skip
      refine v_iconst G 0 (decAt dd_GN_keepBelow 19 rfl) (by decide) ?_
      refine v_istore_1 G (decAt dd_GN_keepBelow 20 rfl) (by decide) rfl ?_
      have hgt : (if 1 < q.d then gbth q else q) = q := by
        by_cases hz : 1 < q.d
        · rw [if_pos hz]
          unfold gbth
          rw [if_neg (fun z => by first | exact c12 (by rw [z]; rfl) | (exact absurd (nI_lt (a := 1) hz (by omega)) (Int32.not_lt.mpr c20)))]
        · rw [if_neg hz]
      refine v_room (1 + 0) (64 + 64 * 0) (by decide) (by decide) ?_
      exact J35 (q.d - 1) 0 _ _ _ _ (by omega) (by rw [gkeepN, hgt]; exact hI) (GnF.rf g A n)
    · skip
      have h5 : (q.kf (q.d - 1)).1 = 5 := by first | exact (nI_eq (b := 5) (by omega) (by omega)).mp c12 | exact (nI_eq (b := 5) (by omega) (by omega)).mp (Classical.not_not.mp c12)
      have h1d : 1 < q.d := (nI_ltI (a := 1) (by omega) (by omega)).mp (Int32.not_le.mp c20)
      have hgt : (if 1 < q.d then gbth q else q) = gkeep (q.d - 1) q := by rw [if_pos h1d]; exact if_pos h5
      refine v_aload_n G (decAt dd_GN_keepBelow 13 rfl) rfl ?_
      refine v_aload_n G (decAt dd_GN_keepBelow 14 rfl) rfl ?_
      refine v_geti G (decAt dd_GN_keepBelow 15 rfl) f_GN_44 ?_
      refine v_ri (y := (nI q.d)) hI.dep ?_
      refine v_iconst G 1 (decAt dd_GN_keepBelow 16 rfl) (by decide) ?_
      refine v_isub G (decAt dd_GN_keepBelow 17 rfl) ?_
      refine v_ri (y := (nI (q.d - 1))) (nI_sb (a := q.d) (b := 1) (by omega)) ?_
      refine v_callVv G (As := [.int (nI (q.d - 1))]) (P := fun ρ' g' A' n' tx' => GnI (gkeep (q.d - 1) (q)) g' A' n' ∧ GnF g A n g' A' n' ∧ tx' = tx) (rm := ({ frames := 8, cells := 1, slots := 64, locals := 173 } : Room)) (decAt dd_GN_keepBelow 18 rfl) k_GN_54 (c_GN_keep l hE hI (k := q.d - 1) (by omega) (by rw [← hgt]; exact hBt)) (by decide) rfl rfl rfl (Nat.le_of_ble_eq_true rfl) (by decide) (by decide) ?_
      rintro ρ102 g102 A102 n102 tx102 ⟨hI102, hX102, etx⟩
      replace etx := etx.symm; subst etx
      have hF102 := GnF.trans (GnF.rf g A n) hX102
      refine v_iconst G 0 (decAt dd_GN_keepBelow 19 rfl) (by decide) ?_
      refine v_istore_1 G (decAt dd_GN_keepBelow 20 rfl) (by decide) rfl ?_
      refine v_room (1 + 0) (64 + 64 * 0) (by decide) (by decide) ?_
      exact J35 (q.d - 1) 0 _ _ _ _ (by omega) (by rw [gkeepN, hgt]; exact hI102) hF102
set_option maxHeartbeats 4000000 in
theorem c_GN_keep2_a (l : Launch) {E : Bs} (hE : Hb E) {ρ : Nat → Nat} {g A : Nat → Nat → Int32} {n : Nat → Nat} {tx : Value} {q : GS} (hI : GnI q g A n) {k : Nat} (hk : k < q.d) (hB : Fit (gkeep2 k q)) (hn5 : (q.kf (q.d - 1)).1 ≠ 5) : CW l E DC AC y_GN_keep2 b_GN_keep2 2 none ({ frames := 9, cells := 1, slots := 64, locals := 194 } : Room) [.ref (E.o 3), .int (nI k)] ρ g A n tx (fun r ρ' g' A' n' tx' => r = none ∧ GnI (gkeep2 k q) g' A' n' ∧ GnF g A n g' A' n' ∧ tx' = tx) := by
  refine CW.start [some (.ref (E.o 3)), some (.int (nI k))] hE (by decide) (Nat.le_of_ble_eq_true rfl) rfl ?_
  intro p e s m args below meth c G
  have hd := hI.dle
  have h17 := hI.n17
  have hkd := hI.kd hk
  have hkk : (q.kf k).1 < 10 := by rcases hI.ok hk with e | e | e | e <;> omega
  have hkb : (q.kf (q.d - 1)).1 < 10 := by rcases hI.ok (k := q.d - 1) (by omega) with e | e | e | e <;> omega
  refine v_aload_n G (decAt dd_GN_keep2 0 rfl) rfl ?_
  refine v_geta G (decAt dd_GN_keep2 1 rfl) f_GN_18 ?_
  refine v_iload_n G (decAt dd_GN_keep2 2 rfl) rfl ?_
  refine v_iald G 17 k (decAt dd_GN_keep2 3 rfl) (by decide) rfl rfl (by omega) ?_
  refine v_ri (y := nI (q.kf k).1) hkd ?_
  refine v_iconst G 4 (decAt dd_GN_keep2 4 rfl) (by decide) ?_
  refine v_icmp_ne G 11 (decAt dd_GN_keep2 5 rfl) (by decide) (fun c7 => ?_) (fun c7 => ?_)
  · skip
    have e4 : ¬ (q.kf k).1 = 4 := fun z => c7 (by rw [z]; rfl)
    have hgl : gkeep2 k q = gkeep k (gbth q) := if_neg e4
    rw [hgl] at hB ⊢
    have hB2 : Fit (gbth q) := hB.of (QLe.keep _ _)
    refine v_aload_n G (decAt dd_GN_keep2 7 rfl) rfl ?_
    refine v_geta G (decAt dd_GN_keep2 8 rfl) f_GN_18 ?_
    refine v_aload_n G (decAt dd_GN_keep2 9 rfl) rfl ?_
    refine v_geti G (decAt dd_GN_keep2 10 rfl) f_GN_44 ?_
    refine v_ri (y := (nI q.d)) hI.dep ?_
    refine v_iconst G 1 (decAt dd_GN_keep2 11 rfl) (by decide) ?_
    refine v_isub G (decAt dd_GN_keep2 12 rfl) ?_
    refine v_ri (y := (nI (q.d - 1))) (nI_sb (a := q.d) (b := 1) (by omega)) ?_
    refine v_iald G 17 (q.d - 1) (decAt dd_GN_keep2 13 rfl) (by decide) rfl rfl (by have := hI.n17; omega) ?_
    refine v_ri (y := nI ((q).kf (q.d - 1)).1) (hI.kd (by first | omega | (simp only [gline_d, gload_d, gkeep_d, gkeepN_d, gtop_d, gbth_d, gboth_d, gkeepBelow_d, gkeep2_d, gkeep2N_d, gkeepAll_d, gset_d]; omega))) ?_
    refine v_iconst G 5 (decAt dd_GN_keep2 14 rfl) (by decide) ?_
    refine v_icmp_ne G 36 (decAt dd_GN_keep2 15 rfl) (by decide) (fun c23 => ?_) (fun c23 => ?_)
    · skip
      have hgt : gbth q = q := if_neg (fun z => c23 (by rw [z]; rfl))
      have hJ : GnI (gbth q) g A n := by rw [hgt]; exact hI
      refine v_aload_n G (decAt dd_GN_keep2 22 rfl) rfl ?_
      refine v_iload_n G (decAt dd_GN_keep2 23 rfl) rfl ?_
      refine v_callVv G (As := [.int (nI (k))]) (P := fun ρ' g' A' n' tx' => GnI (gkeep (k) (gbth q)) g' A' n' ∧ GnF g A n g' A' n' ∧ tx' = tx) (rm := ({ frames := 8, cells := 1, slots := 64, locals := 173 } : Room)) (decAt dd_GN_keep2 24 rfl) k_GN_54 (c_GN_keep l hE hJ (k := k) (by first | omega | (simp only [gline_d, gload_d, gkeep_d, gkeepN_d, gtop_d, gbth_d, gboth_d, gkeepBelow_d, gkeep2_d, gkeep2N_d, gkeepAll_d, gset_d]; omega)) hB) (by decide) rfl rfl rfl (Nat.le_of_ble_eq_true rfl) (by decide) (by decide) ?_
      rintro ρ103 g103 A103 n103 tx103 ⟨hI103, hX103, etx⟩
      replace etx := etx.symm; subst etx
      have hF103 := GnF.trans (GnF.rf g A n) hX103
      refine v_room 1 64 (by decide) (by decide) ?_
      exact v_vret G (decAt dd_GN_keep2 25 rfl) rfl ⟨rfl, hI103, hF103, rfl⟩
    · skip
      exact absurd (by first | exact (nI_eq (b := 5) (by omega) (by omega)).mp c23 | exact (nI_eq (b := 5) (by omega) (by omega)).mp (Classical.not_not.mp c23)) hn5
  · skip
    have e4 : (q.kf k).1 = 4 := by first | exact (nI_eq (b := 4) (by omega) (by omega)).mp c7 | exact (nI_eq (b := 4) (by omega) (by omega)).mp (Classical.not_not.mp c7)
    have hgl : gkeep2 k q = q := if_pos e4
    rw [hgl]
    refine v_room 1 64 (by decide) (by decide) ?_
    exact v_vret G (decAt dd_GN_keep2 6 rfl) rfl ⟨rfl, hI, (GnF.rf g A n), rfl⟩
set_option maxHeartbeats 4000000 in
theorem c_GN_keep2_b (l : Launch) {E : Bs} (hE : Hb E) {ρ : Nat → Nat} {g A : Nat → Nat → Int32} {n : Nat → Nat} {tx : Value} {q : GS} (hI : GnI q g A n) {k : Nat} (hk : k < q.d) (hB : Fit (gkeep2 k q)) : CW l E DC AC y_GN_keep2 b_GN_keep2 2 none ({ frames := 9, cells := 2, slots := 128, locals := 194 } : Room) [.ref (E.o 3), .int (nI k)] ρ g A n tx (fun r ρ' g' A' n' tx' => r = none ∧ GnI (gkeep2 k q) g' A' n' ∧ GnF g A n g' A' n' ∧ tx' = tx) := by
  refine CW.start [some (.ref (E.o 3)), some (.int (nI k))] hE (by decide) (Nat.le_of_ble_eq_true rfl) rfl ?_
  intro p e s m args below meth c G
  have hd := hI.dle
  have h17 := hI.n17
  have hkd := hI.kd hk
  have hkk : (q.kf k).1 < 10 := by rcases hI.ok hk with e | e | e | e <;> omega
  have hkb : (q.kf (q.d - 1)).1 < 10 := by rcases hI.ok (k := q.d - 1) (by omega) with e | e | e | e <;> omega
  refine v_aload_n G (decAt dd_GN_keep2 0 rfl) rfl ?_
  refine v_geta G (decAt dd_GN_keep2 1 rfl) f_GN_18 ?_
  refine v_iload_n G (decAt dd_GN_keep2 2 rfl) rfl ?_
  refine v_iald G 17 k (decAt dd_GN_keep2 3 rfl) (by decide) rfl rfl (by omega) ?_
  refine v_ri (y := nI (q.kf k).1) hkd ?_
  refine v_iconst G 4 (decAt dd_GN_keep2 4 rfl) (by decide) ?_
  refine v_icmp_ne G 11 (decAt dd_GN_keep2 5 rfl) (by decide) (fun c7 => ?_) (fun c7 => ?_)
  · skip
    have e4 : ¬ (q.kf k).1 = 4 := fun z => c7 (by rw [z]; rfl)
    have hgl : gkeep2 k q = gkeep k (gbth q) := if_neg e4
    rw [hgl] at hB ⊢
    have hB2 : Fit (gbth q) := hB.of (QLe.keep _ _)
    refine v_aload_n G (decAt dd_GN_keep2 7 rfl) rfl ?_
    refine v_geta G (decAt dd_GN_keep2 8 rfl) f_GN_18 ?_
    refine v_aload_n G (decAt dd_GN_keep2 9 rfl) rfl ?_
    refine v_geti G (decAt dd_GN_keep2 10 rfl) f_GN_44 ?_
    refine v_ri (y := (nI q.d)) hI.dep ?_
    refine v_iconst G 1 (decAt dd_GN_keep2 11 rfl) (by decide) ?_
    refine v_isub G (decAt dd_GN_keep2 12 rfl) ?_
    refine v_ri (y := (nI (q.d - 1))) (nI_sb (a := q.d) (b := 1) (by omega)) ?_
    refine v_iald G 17 (q.d - 1) (decAt dd_GN_keep2 13 rfl) (by decide) rfl rfl (by have := hI.n17; omega) ?_
    refine v_ri (y := nI ((q).kf (q.d - 1)).1) (hI.kd (by first | omega | (simp only [gline_d, gload_d, gkeep_d, gkeepN_d, gtop_d, gbth_d, gboth_d, gkeepBelow_d, gkeep2_d, gkeep2N_d, gkeepAll_d, gset_d]; omega))) ?_
    refine v_iconst G 5 (decAt dd_GN_keep2 14 rfl) (by decide) ?_
    refine v_icmp_ne G 36 (decAt dd_GN_keep2 15 rfl) (by decide) (fun c23 => ?_) (fun c23 => ?_)
    · skip
      have hgt : gbth q = q := if_neg (fun z => c23 (by rw [z]; rfl))
      have hJ : GnI (gbth q) g A n := by rw [hgt]; exact hI
      refine v_aload_n G (decAt dd_GN_keep2 22 rfl) rfl ?_
      refine v_iload_n G (decAt dd_GN_keep2 23 rfl) rfl ?_
      refine v_callVv G (As := [.int (nI (k))]) (P := fun ρ' g' A' n' tx' => GnI (gkeep (k) (gbth q)) g' A' n' ∧ GnF g A n g' A' n' ∧ tx' = tx) (rm := ({ frames := 8, cells := 1, slots := 64, locals := 173 } : Room)) (decAt dd_GN_keep2 24 rfl) k_GN_54 (c_GN_keep l hE hJ (k := k) (by first | omega | (simp only [gline_d, gload_d, gkeep_d, gkeepN_d, gtop_d, gbth_d, gboth_d, gkeepBelow_d, gkeep2_d, gkeep2N_d, gkeepAll_d, gset_d]; omega)) hB) (by decide) rfl rfl rfl (Nat.le_of_ble_eq_true rfl) (by decide) (by decide) ?_
      rintro ρ104 g104 A104 n104 tx104 ⟨hI104, hX104, etx⟩
      replace etx := etx.symm; subst etx
      have hF104 := GnF.trans (GnF.rf g A n) hX104
      refine v_room 2 128 (by decide) (by decide) ?_
      exact v_vret G (decAt dd_GN_keep2 25 rfl) rfl ⟨rfl, hI104, hF104, rfl⟩
    · skip
      have h5 : (q.kf (q.d - 1)).1 = 5 := by first | exact (nI_eq (b := 5) (by omega) (by omega)).mp c23 | exact (nI_eq (b := 5) (by omega) (by omega)).mp (Classical.not_not.mp c23)
      have hgt : gbth q = gkeep (q.d - 1) q := if_pos h5
      refine v_aload_n G (decAt dd_GN_keep2 16 rfl) rfl ?_
      refine v_aload_n G (decAt dd_GN_keep2 17 rfl) rfl ?_
      refine v_geti G (decAt dd_GN_keep2 18 rfl) f_GN_44 ?_
      refine v_ri (y := (nI q.d)) hI.dep ?_
      refine v_iconst G 1 (decAt dd_GN_keep2 19 rfl) (by decide) ?_
      refine v_isub G (decAt dd_GN_keep2 20 rfl) ?_
      refine v_ri (y := (nI (q.d - 1))) (nI_sb (a := q.d) (b := 1) (by omega)) ?_
      refine v_callVv G (As := [.int (nI (q.d - 1))]) (P := fun ρ' g' A' n' tx' => GnI (gkeep (q.d - 1) (q)) g' A' n' ∧ GnF g A n g' A' n' ∧ tx' = tx) (rm := ({ frames := 8, cells := 1, slots := 64, locals := 173 } : Room)) (decAt dd_GN_keep2 21 rfl) k_GN_54 (c_GN_keep l hE hI (k := q.d - 1) (by omega) (by rw [← hgt]; exact hB2)) (by decide) rfl rfl rfl (Nat.le_of_ble_eq_true rfl) (by decide) (by decide) ?_
      rintro ρ105 g105 A105 n105 tx105 ⟨hI105, hX105, etx⟩
      replace etx := etx.symm; subst etx
      have hF105 := GnF.trans (GnF.rf g A n) hX105
      have hJ : GnI (gbth q) g105 A105 n105 := by rw [hgt]; exact hI105
      refine v_aload_n G (decAt dd_GN_keep2 22 rfl) rfl ?_
      refine v_iload_n G (decAt dd_GN_keep2 23 rfl) rfl ?_
      refine v_callVv G (As := [.int (nI (k))]) (P := fun ρ' g' A' n' tx' => GnI (gkeep (k) (gbth q)) g' A' n' ∧ GnF g105 A105 n105 g' A' n' ∧ tx' = tx) (rm := ({ frames := 8, cells := 1, slots := 64, locals := 173 } : Room)) (decAt dd_GN_keep2 24 rfl) k_GN_54 (c_GN_keep l hE hJ (k := k) (by first | omega | (simp only [gline_d, gload_d, gkeep_d, gkeepN_d, gtop_d, gbth_d, gboth_d, gkeepBelow_d, gkeep2_d, gkeep2N_d, gkeepAll_d, gset_d]; omega)) hB) (by decide) rfl rfl rfl (Nat.le_of_ble_eq_true rfl) (by decide) (by decide) ?_
      rintro ρ106 g106 A106 n106 tx106 ⟨hI106, hX106, etx⟩
      replace etx := etx.symm; subst etx
      have hF106 := GnF.trans hF105 hX106
      refine v_room 2 128 (by decide) (by decide) ?_
      exact v_vret G (decAt dd_GN_keep2 25 rfl) rfl ⟨rfl, hI106, hF106, rfl⟩
  · skip
    have e4 : (q.kf k).1 = 4 := by first | exact (nI_eq (b := 4) (by omega) (by omega)).mp c7 | exact (nI_eq (b := 4) (by omega) (by omega)).mp (Classical.not_not.mp c7)
    have hgl : gkeep2 k q = q := if_pos e4
    rw [hgl]
    refine v_room 2 128 (by decide) (by decide) ?_
    exact v_vret G (decAt dd_GN_keep2 6 rfl) rfl ⟨rfl, hI, (GnF.rf g A n), rfl⟩
set_option maxHeartbeats 4000000 in
theorem c_GN_keep2_k (l : Launch) {E : Bs} (hE : Hb E) {ρ : Nat → Nat} {g A : Nat → Nat → Int32} {n : Nat → Nat} {tx : Value} {q : GS} (hI : GnI q g A n) {k : Nat} (hk : k < q.d) (h4 : (q.kf k).1 = 4) : CW l E DC AC y_GN_keep2 b_GN_keep2 2 none ({ frames := 9, cells := 0, slots := 0, locals := 194 } : Room) [.ref (E.o 3), .int (nI k)] ρ g A n tx (fun r ρ' g' A' n' tx' => r = none ∧ GnI (gkeep2 k q) g' A' n' ∧ GnF g A n g' A' n' ∧ tx' = tx) := by
  refine CW.start [some (.ref (E.o 3)), some (.int (nI k))] hE (by decide) (Nat.le_of_ble_eq_true rfl) rfl ?_
  intro p e s m args below meth c G
  have hd := hI.dle
  have h17 := hI.n17
  have hkd := hI.kd hk
  refine v_aload_n G (decAt dd_GN_keep2 0 rfl) rfl ?_
  refine v_geta G (decAt dd_GN_keep2 1 rfl) f_GN_18 ?_
  refine v_iload_n G (decAt dd_GN_keep2 2 rfl) rfl ?_
  refine v_iald G 17 k (decAt dd_GN_keep2 3 rfl) (by decide) rfl rfl (by omega) ?_
  refine v_ri (y := nI (q.kf k).1) hkd ?_
  refine v_iconst G 4 (decAt dd_GN_keep2 4 rfl) (by decide) ?_
  refine v_icmp_ne G 11 (decAt dd_GN_keep2 5 rfl) (by decide) (fun c7 => ?_) (fun c7 => ?_)
  · skip
    exact absurd (by rw [h4]; rfl) c7
  · skip
    have hgl : gkeep2 k q = q := if_pos h4
    rw [hgl]
    exact v_vret G (decAt dd_GN_keep2 6 rfl) rfl ⟨rfl, hI, (GnF.rf g A n), rfl⟩
set_option maxHeartbeats 4000000 in
theorem c_GN_single (l : Launch) {E : Bs} (hE : Hb E) {ρ : Nat → Nat} {g A : Nat → Nat → Int32} {n : Nat → Nat} {tx : Value} {q : GS} (hI : GnI q g A n) {x : Int32} (h1 : 1 ≤ q.d) (hB : Fit (gsingle x q)) : CW l E DC AC y_GN_single b_GN_single 2 none ({ frames := 8, cells := 1, slots := 64, locals := 173 } : Room) [.ref (E.o 3), .int x] ρ g A n tx (fun r ρ' g' A' n' tx' => r = none ∧ GnI (gsingle x q) g' A' n' ∧ GnF g A n g' A' n' ∧ tx' = tx) := by
  refine CW.start [some (.ref (E.o 3)), some (.int x)] hE (by decide) (Nat.le_of_ble_eq_true rfl) rfl ?_
  intro p e s m args below meth c G
  have hd := hI.dle
  have hB1 : Fit (gline 9 x (gload (q.d - 1) q)) := hB
  have hB2 : Fit (gload (q.d - 1) q) := hB1.of (QLe.line _ _ _)
  refine v_aload_n G (decAt dd_GN_single 0 rfl) rfl ?_
  refine v_aload_n G (decAt dd_GN_single 1 rfl) rfl ?_
  refine v_geti G (decAt dd_GN_single 2 rfl) f_GN_44 ?_
  refine v_ri (y := (nI q.d)) hI.dep ?_
  refine v_iconst G 1 (decAt dd_GN_single 3 rfl) (by decide) ?_
  refine v_isub G (decAt dd_GN_single 4 rfl) ?_
  refine v_ri (y := (nI (q.d - 1))) (nI_sb (a := q.d) (b := 1) (by omega)) ?_
  refine v_callVv G (As := [.int (nI (q.d - 1))]) (P := fun ρ' g' A' n' tx' => GnI (gload (q.d - 1) (q)) g' A' n' ∧ GnF g A n g' A' n' ∧ tx' = tx) (rm := ({ frames := 7, cells := 1, slots := 64, locals := 152 } : Room)) (decAt dd_GN_single 5 rfl) k_GN_107 (c_GN_load l hE hI (k := q.d - 1) (by first | omega | (simp only [gline_d, gload_d, gkeep_d, gkeepN_d, gtop_d, gbth_d, gboth_d, gkeepBelow_d, gkeep2_d, gkeep2N_d, gkeepAll_d, gset_d]; omega)) hB2) (by decide) rfl rfl rfl (Nat.le_of_ble_eq_true rfl) (by decide) (by decide) ?_
  rintro ρ107 g107 A107 n107 tx107 ⟨hI107, hX107, etx⟩
  replace etx := etx.symm; subst etx
  have hF107 := GnF.trans (GnF.rf g A n) hX107
  refine v_aload_n G (decAt dd_GN_single 6 rfl) rfl ?_
  refine q_ldcs G (i := 9) (decAt dd_GN_single 7 rfl) rfl rfl rfl ?_
  refine v_iload_n G (decAt dd_GN_single 8 rfl) rfl ?_
  refine v_callVv G (As := [.ref (E.st (10 + 9)), .int x]) (P := fun ρ' g' A' n' tx' => GnI (gline 9 x (gload (q.d - 1) (q))) g' A' n' ∧ GnF g107 A107 n107 g' A' n' ∧ tx' = tx) (rm := ({ frames := 5, cells := 0, slots := 0, locals := 107 } : Room)) (decAt dd_GN_single 9 rfl) k_GN_84 (c_GN_lineG l hE hI107 (i := 9) (v := x) (by decide) hB1) (by decide) rfl rfl rfl (Nat.le_of_ble_eq_true rfl) (by decide) (by decide) ?_
  rintro ρ108 g108 A108 n108 tx108 ⟨hI108, hX108, etx⟩
  replace etx := etx.symm; subst etx
  have hF108 := GnF.trans hF107 hX108
  refine v_aload_n G (decAt dd_GN_single 10 rfl) rfl ?_
  refine v_iconst G 0 (decAt dd_GN_single 11 rfl) (by decide) ?_
  refine v_callVv G (As := [.int (nI 0)]) (P := fun ρ' g' A' n' tx' => GnI (gheld 0 (gline 9 x (gload (q.d - 1) (q)))) g' A' n' ∧ GnF g108 A108 n108 g' A' n' ∧ tx' = tx) (rm := ({ frames := 0, cells := 0, slots := 0, locals := 0 } : Room)) (decAt dd_GN_single 12 rfl) k_GN_199 (c_GN_held l hE hI108 (less := 0) (by first | omega | (simp only [gline_d, gload_d, gkeep_d, gkeepN_d, gtop_d, gbth_d, gboth_d, gkeepBelow_d, gkeep2_d, gkeep2N_d, gkeepAll_d, gset_d]; omega))) (by decide) rfl rfl rfl (Nat.le_of_ble_eq_true rfl) (by decide) (by decide) ?_
  rintro ρ109 g109 A109 n109 tx109 ⟨hI109, hX109, etx⟩
  replace etx := etx.symm; subst etx
  have hF109 := GnF.trans hF108 hX109
  refine v_room 1 64 (by decide) (by decide) ?_
  exact v_vret G (decAt dd_GN_single 13 rfl) rfl ⟨rfl, hI109, hF109, rfl⟩
set_option maxHeartbeats 4000000 in
theorem c_GN_pair (l : Launch) {E : Bs} (hE : Hb E) {ρ : Nat → Nat} {g A : Nat → Nat → Int32} {n : Nat → Nat} {tx : Value} {q : GS} (hI : GnI q g A n) {x : Int32} (h2 : 2 ≤ q.d) (hB : Fit (gpair x q)) : CW l E DC AC y_GN_pair b_GN_pair 2 none ({ frames := 10, cells := 3, slots := 192, locals := 214 } : Room) [.ref (E.o 3), .int x] ρ g A n tx (fun r ρ' g' A' n' tx' => r = none ∧ GnI (gpair x q) g' A' n' ∧ GnF g A n g' A' n' ∧ tx' = tx) := by
  refine CW.start [some (.ref (E.o 3)), some (.int x)] hE (by decide) (Nat.le_of_ble_eq_true rfl) rfl ?_
  intro p e s m args below meth c G
  have hd := hI.dle
  have hB1 : Fit (gline 9 x (gboth q)) := hB
  have hB2 : Fit (gboth q) := hB1.of (QLe.line _ _ _)
  refine v_aload_n G (decAt dd_GN_pair 0 rfl) rfl ?_
  refine v_callVv G (As := []) (P := fun ρ' g' A' n' tx' => GnI (gboth (q)) g' A' n' ∧ GnF g A n g' A' n' ∧ tx' = tx) (rm := ({ frames := 9, cells := 3, slots := 192, locals := 194 } : Room)) (decAt dd_GN_pair 1 rfl) k_GN_202 (c_GN_both l hE hI (by first | omega | (simp only [gline_d, gload_d, gkeep_d, gkeepN_d, gtop_d, gbth_d, gboth_d, gkeepBelow_d, gkeep2_d, gkeep2N_d, gkeepAll_d, gset_d]; omega)) hB2) (by decide) rfl rfl rfl (Nat.le_of_ble_eq_true rfl) (by decide) (by decide) ?_
  rintro ρ110 g110 A110 n110 tx110 ⟨hI110, hX110, etx⟩
  replace etx := etx.symm; subst etx
  have hF110 := GnF.trans (GnF.rf g A n) hX110
  refine v_aload_n G (decAt dd_GN_pair 2 rfl) rfl ?_
  refine q_ldcs G (i := 9) (decAt dd_GN_pair 3 rfl) rfl rfl rfl ?_
  refine v_iload_n G (decAt dd_GN_pair 4 rfl) rfl ?_
  refine v_callVv G (As := [.ref (E.st (10 + 9)), .int x]) (P := fun ρ' g' A' n' tx' => GnI (gline 9 x (gboth (q))) g' A' n' ∧ GnF g110 A110 n110 g' A' n' ∧ tx' = tx) (rm := ({ frames := 5, cells := 0, slots := 0, locals := 107 } : Room)) (decAt dd_GN_pair 5 rfl) k_GN_84 (c_GN_lineG l hE hI110 (i := 9) (v := x) (by decide) hB1) (by decide) rfl rfl rfl (Nat.le_of_ble_eq_true rfl) (by decide) (by decide) ?_
  rintro ρ111 g111 A111 n111 tx111 ⟨hI111, hX111, etx⟩
  replace etx := etx.symm; subst etx
  have hF111 := GnF.trans hF110 hX111
  refine v_aload_n G (decAt dd_GN_pair 6 rfl) rfl ?_
  refine v_iconst G 1 (decAt dd_GN_pair 7 rfl) (by decide) ?_
  refine v_callVv G (As := [.int (nI 1)]) (P := fun ρ' g' A' n' tx' => GnI (gheld 1 (gline 9 x (gboth (q)))) g' A' n' ∧ GnF g111 A111 n111 g' A' n' ∧ tx' = tx) (rm := ({ frames := 0, cells := 0, slots := 0, locals := 0 } : Room)) (decAt dd_GN_pair 8 rfl) k_GN_199 (c_GN_held l hE hI111 (less := 1) (by first | omega | (simp only [gline_d, gload_d, gkeep_d, gkeepN_d, gtop_d, gbth_d, gboth_d, gkeepBelow_d, gkeep2_d, gkeep2N_d, gkeepAll_d, gset_d]; omega))) (by decide) rfl rfl rfl (Nat.le_of_ble_eq_true rfl) (by decide) (by decide) ?_
  rintro ρ112 g112 A112 n112 tx112 ⟨hI112, hX112, etx⟩
  replace etx := etx.symm; subst etx
  have hF112 := GnF.trans hF111 hX112
  refine v_room 3 192 (by decide) (by decide) ?_
  exact v_vret G (decAt dd_GN_pair 9 rfl) rfl ⟨rfl, hI112, hF112, rfl⟩
set_option maxHeartbeats 4000000 in
theorem c_GN_chain (l : Launch) {E : Bs} (hE : Hb E) {ρ : Nat → Nat} {g A : Nat → Nat → Int32} {n : Nat → Nat} {tx : Value} {q : GS} (hI : GnI q g A n) {x : Int32} (h2 : 2 ≤ q.d) (hB : Fit (gchain x q)) : CW l E DC AC y_GN_chain b_GN_chain 2 none ({ frames := 10, cells := 3, slots := 192, locals := 214 } : Room) [.ref (E.o 3), .int x] ρ g A n tx (fun r ρ' g' A' n' tx' => r = none ∧ GnI (gchain x q) g' A' n' ∧ GnF g A n g' A' n' ∧ tx' = tx) := by
  refine CW.start [some (.ref (E.o 3)), some (.int x)] hE (by decide) (Nat.le_of_ble_eq_true rfl) rfl ?_
  intro p e s m args below meth c G
  have hd := hI.dle
  have hB1 : Fit (gline 9 (40 + x) (gline 6 (nI (q.d - 2)) (gboth q))) := hB
  have hB2 : Fit (gline 6 (nI (q.d - 2)) (gboth q)) := hB1.of (QLe.line _ _ _)
  have hB3 : Fit (gboth q) := hB2.of (QLe.line _ _ _)
  refine v_aload_n G (decAt dd_GN_chain 0 rfl) rfl ?_
  refine v_callVv G (As := []) (P := fun ρ' g' A' n' tx' => GnI (gboth (q)) g' A' n' ∧ GnF g A n g' A' n' ∧ tx' = tx) (rm := ({ frames := 9, cells := 3, slots := 192, locals := 194 } : Room)) (decAt dd_GN_chain 1 rfl) k_GN_202 (c_GN_both l hE hI (by first | omega | (simp only [gline_d, gload_d, gkeep_d, gkeepN_d, gtop_d, gbth_d, gboth_d, gkeepBelow_d, gkeep2_d, gkeep2N_d, gkeepAll_d, gset_d]; omega)) hB3) (by decide) rfl rfl rfl (Nat.le_of_ble_eq_true rfl) (by decide) (by decide) ?_
  rintro ρ113 g113 A113 n113 tx113 ⟨hI113, hX113, etx⟩
  replace etx := etx.symm; subst etx
  have hF113 := GnF.trans (GnF.rf g A n) hX113
  refine v_aload_n G (decAt dd_GN_chain 2 rfl) rfl ?_
  refine q_ldcs G (i := 6) (decAt dd_GN_chain 3 rfl) rfl rfl rfl ?_
  refine v_aload_n G (decAt dd_GN_chain 4 rfl) rfl ?_
  refine v_geti G (decAt dd_GN_chain 5 rfl) f_GN_44 ?_
  refine v_ri (y := (nI q.d)) (hI113.dep.trans (congrArg nI (by simp only [gline_d, gload_d, gkeep_d, gkeepN_d, gtop_d, gbth_d, gboth_d, gkeepBelow_d, gkeep2_d, gkeep2N_d, gkeepAll_d, gset_d]))) ?_
  refine v_iconst G 2 (decAt dd_GN_chain 6 rfl) (by decide) ?_
  refine v_isub G (decAt dd_GN_chain 7 rfl) ?_
  refine v_ri (y := (nI (q.d - 2))) (nI_sb (a := q.d) (b := 2) (by omega)) ?_
  refine v_callVv G (As := [.ref (E.st (10 + 6)), .int (nI (q.d - 2))]) (P := fun ρ' g' A' n' tx' => GnI (gline 6 (nI (q.d - 2)) (gboth (q))) g' A' n' ∧ GnF g113 A113 n113 g' A' n' ∧ tx' = tx) (rm := ({ frames := 5, cells := 0, slots := 0, locals := 107 } : Room)) (decAt dd_GN_chain 8 rfl) k_GN_84 (c_GN_lineG l hE hI113 (i := 6) (v := (nI (q.d - 2))) (by decide) hB2) (by decide) rfl rfl rfl (Nat.le_of_ble_eq_true rfl) (by decide) (by decide) ?_
  rintro ρ114 g114 A114 n114 tx114 ⟨hI114, hX114, etx⟩
  replace etx := etx.symm; subst etx
  have hF114 := GnF.trans hF113 hX114
  refine v_aload_n G (decAt dd_GN_chain 9 rfl) rfl ?_
  refine q_ldcs G (i := 9) (decAt dd_GN_chain 10 rfl) rfl rfl rfl ?_
  refine v_bipush G 40 (decAt dd_GN_chain 11 rfl) (by decide) ?_
  refine v_iload_n G (decAt dd_GN_chain 12 rfl) rfl ?_
  refine v_iadd G (decAt dd_GN_chain 13 rfl) ?_
  refine v_callVv G (As := [.ref (E.st (10 + 9)), .int (40 + x)]) (P := fun ρ' g' A' n' tx' => GnI (gline 9 (40 + x) (gline 6 (nI (q.d - 2)) (gboth (q)))) g' A' n' ∧ GnF g114 A114 n114 g' A' n' ∧ tx' = tx) (rm := ({ frames := 5, cells := 0, slots := 0, locals := 107 } : Room)) (decAt dd_GN_chain 14 rfl) k_GN_84 (c_GN_lineG l hE hI114 (i := 9) (v := (40 + x)) (by decide) hB1) (by decide) rfl rfl rfl (Nat.le_of_ble_eq_true rfl) (by decide) (by decide) ?_
  rintro ρ115 g115 A115 n115 tx115 ⟨hI115, hX115, etx⟩
  replace etx := etx.symm; subst etx
  have hF115 := GnF.trans hF114 hX115
  refine v_aload_n G (decAt dd_GN_chain 15 rfl) rfl ?_
  refine v_geta G (decAt dd_GN_chain 16 rfl) f_GN_18 ?_
  refine v_aload_n G (decAt dd_GN_chain 17 rfl) rfl ?_
  refine v_geti G (decAt dd_GN_chain 18 rfl) f_GN_44 ?_
  refine v_ri (y := (nI q.d)) (hI115.dep.trans (congrArg nI (by simp only [gline_d, gload_d, gkeep_d, gkeepN_d, gtop_d, gbth_d, gboth_d, gkeepBelow_d, gkeep2_d, gkeep2N_d, gkeepAll_d, gset_d]))) ?_
  refine v_iconst G 2 (decAt dd_GN_chain 19 rfl) (by decide) ?_
  refine v_isub G (decAt dd_GN_chain 20 rfl) ?_
  refine v_ri (y := (nI (q.d - 2))) (nI_sb (a := q.d) (b := 2) (by omega)) ?_
  refine v_iconst G 4 (decAt dd_GN_chain 21 rfl) (by decide) ?_
  refine v_iast G 17 (q.d - 2) (decAt dd_GN_chain 22 rfl) (by decide) rfl rfl (by have := hI115.n17; omega) ?_
  refine v_aload_n G (decAt dd_GN_chain 23 rfl) rfl ?_
  refine v_geta G (decAt dd_GN_chain 24 rfl) f_GN_18 ?_
  refine v_aload_n G (decAt dd_GN_chain 25 rfl) rfl ?_
  refine v_geti G (decAt dd_GN_chain 26 rfl) f_GN_44 ?_
  refine v_ri (y := (nI q.d)) (hI115.dep.trans (congrArg nI (by simp only [gline_d, gload_d, gkeep_d, gkeepN_d, gtop_d, gbth_d, gboth_d, gkeepBelow_d, gkeep2_d, gkeep2N_d, gkeepAll_d, gset_d]))) ?_
  refine v_iconst G 1 (decAt dd_GN_chain 27 rfl) (by decide) ?_
  refine v_isub G (decAt dd_GN_chain 28 rfl) ?_
  refine v_ri (y := (nI (q.d - 1))) (nI_sb (a := q.d) (b := 1) (by omega)) ?_
  refine v_iconst G 5 (decAt dd_GN_chain 29 rfl) (by decide) ?_
  refine v_iast G 17 (q.d - 1) (decAt dd_GN_chain 30 rfl) (by decide) rfl rfl (by have := hI115.n17; omega) ?_
  refine v_room 3 192 (by decide) (by decide) ?_
  exact v_vret G (decAt dd_GN_chain 31 rfl) rfl ⟨rfl, ((hI115.set (k := q.d - 2) (x := (4, 0)) (Or.inr (Or.inr (Or.inl rfl))) (by decide)).set (k := q.d - 1) (x := (5, 0)) (Or.inr (Or.inr (Or.inr rfl))) (by decide)), ((hF115.pA (i := 17) (by decide)).pA (i := 17) (by decide)), rfl⟩
set_option maxHeartbeats 4000000 in
theorem c_GN_stores (l : Launch) {E : Bs} (hE : Hb E) {ρ : Nat → Nat} {g A : Nat → Nat → Int32} {n : Nat → Nat} {tx : Value} {q : GS} (hI : GnI q g A n) {x : Int32} (h1 : 1 ≤ q.d) (hB : Fit (gstores x q)) : CW l E DC AC y_GN_stores b_GN_stores 3 none ({ frames := 10, cells := 62, slots := 3968, locals := 215 } : Room) [.ref (E.o 3), .int 3, .int x] ρ g A n tx (fun r ρ' g' A' n' tx' => r = none ∧ GnI (gstores x q) g' A' n' ∧ GnF g A n g' A' n' ∧ tx' = tx) := by
  refine CW.start [some (.ref (E.o 3)), some (.int 3), some (.int x)] hE (by decide) (Nat.le_of_ble_eq_true rfl) rfl ?_
  intro p e s m args below meth c G
  have hd := hI.dle
  have hB1 : Fit (gline 7 x (gload (q.d - 1) (gkeepBelow q))) := hB
  have hB2 : Fit (gload (q.d - 1) (gkeepBelow q)) := hB1.of (QLe.line _ _ _)
  have hB3 : Fit (gkeepBelow q) := hB2.of (QLe.load _ _)
  refine v_aload_n G (decAt dd_GN_stores 0 rfl) rfl ?_
  refine v_callVv G (As := []) (P := fun ρ' g' A' n' tx' => GnI (gkeepBelow q) g' A' n' ∧ GnF g A n g' A' n' ∧ tx' = tx) (rm := ({ frames := 9, cells := 61, slots := 3904, locals := 194 } : Room)) (decAt dd_GN_stores 1 rfl) k_GN_205 (c_GN_keepBelow l hE hI h1 hB3) (by decide) rfl rfl rfl (Nat.le_of_ble_eq_true rfl) (by decide) (by decide) ?_
  rintro ρ116 g116 A116 n116 tx116 ⟨hI116, hX116, etx⟩
  replace etx := etx.symm; subst etx
  have hF116 := GnF.trans (GnF.rf g A n) hX116
  refine v_aload_n G (decAt dd_GN_stores 2 rfl) rfl ?_
  refine v_aload_n G (decAt dd_GN_stores 3 rfl) rfl ?_
  refine v_geti G (decAt dd_GN_stores 4 rfl) f_GN_44 ?_
  refine v_ri (y := (nI q.d)) (hI116.dep.trans (congrArg nI (by simp only [gline_d, gload_d, gkeep_d, gkeepN_d, gtop_d, gbth_d, gboth_d, gkeepBelow_d, gkeep2_d, gkeep2N_d, gkeepAll_d, gset_d]))) ?_
  refine v_iconst G 1 (decAt dd_GN_stores 5 rfl) (by decide) ?_
  refine v_isub G (decAt dd_GN_stores 6 rfl) ?_
  refine v_ri (y := (nI (q.d - 1))) (nI_sb (a := q.d) (b := 1) (by omega)) ?_
  refine v_callVv G (As := [.int (nI (q.d - 1))]) (P := fun ρ' g' A' n' tx' => GnI (gload (q.d - 1) (gkeepBelow q)) g' A' n' ∧ GnF g116 A116 n116 g' A' n' ∧ tx' = tx) (rm := ({ frames := 7, cells := 1, slots := 64, locals := 152 } : Room)) (decAt dd_GN_stores 7 rfl) k_GN_107 (c_GN_load l hE hI116 (k := q.d - 1) (by first | omega | (simp only [gline_d, gload_d, gkeep_d, gkeepN_d, gtop_d, gbth_d, gboth_d, gkeepBelow_d, gkeep2_d, gkeep2N_d, gkeepAll_d, gset_d]; omega)) hB2) (by decide) rfl rfl rfl (Nat.le_of_ble_eq_true rfl) (by decide) (by decide) ?_
  rintro ρ117 g117 A117 n117 tx117 ⟨hI117, hX117, etx⟩
  replace etx := etx.symm; subst etx
  have hF117 := GnF.trans hF116 hX117
  refine v_aload_n G (decAt dd_GN_stores 8 rfl) rfl ?_
  refine v_iload_n G (decAt dd_GN_stores 9 rfl) rfl ?_
  refine v_iconst G 3 (decAt dd_GN_stores 10 rfl) (by decide) ?_
  refine v_icmp_ne G 25 (decAt dd_GN_stores 11 rfl) (by decide) (fun c17 => absurd c17 (by decide)) (fun _ => ?_)
  refine q_ldcs G (i := 7) (decAt dd_GN_stores 12 rfl) rfl rfl rfl ?_
  refine v_goto G 27 (decAt dd_GN_stores 13 rfl) (by decide) ?_
  refine v_iload_n G (decAt dd_GN_stores 15 rfl) rfl ?_
  refine v_callVv G (As := [.ref (E.st (10 + 7)), .int x]) (P := fun ρ' g' A' n' tx' => GnI (gline 7 x (gload (q.d - 1) (gkeepBelow q))) g' A' n' ∧ GnF g117 A117 n117 g' A' n' ∧ tx' = tx) (rm := ({ frames := 5, cells := 0, slots := 0, locals := 107 } : Room)) (decAt dd_GN_stores 16 rfl) k_GN_84 (c_GN_lineG l hE hI117 (i := 7) (v := x) (by decide) hB1) (by decide) rfl rfl rfl (Nat.le_of_ble_eq_true rfl) (by decide) (by decide) ?_
  rintro ρ118 g118 A118 n118 tx118 ⟨hI118, hX118, etx⟩
  replace etx := etx.symm; subst etx
  have hF118 := GnF.trans hF117 hX118
  refine v_aload_n G (decAt dd_GN_stores 17 rfl) rfl ?_
  refine v_dup G (decAt dd_GN_stores 18 rfl) rfl ?_
  refine v_geti G (decAt dd_GN_stores 19 rfl) f_GN_44 ?_
  refine v_ri (y := (nI q.d)) (hI118.dep.trans (congrArg nI (by simp only [gline_d, gload_d, gkeep_d, gkeepN_d, gtop_d, gbth_d, gboth_d, gkeepBelow_d, gkeep2_d, gkeep2N_d, gkeepAll_d, gset_d]))) ?_
  refine v_iconst G 1 (decAt dd_GN_stores 20 rfl) (by decide) ?_
  refine v_isub G (decAt dd_GN_stores 21 rfl) ?_
  refine v_ri (y := (nI (q.d - 1))) (nI_sb (a := q.d) (b := 1) (by omega)) ?_
  refine v_puti G (decAt dd_GN_stores 22 rfl) f_GN_44 rfl rfl rfl ?_
  refine v_room 62 3968 (by decide) (by decide) ?_
  exact v_vret G (decAt dd_GN_stores 23 rfl) rfl ⟨rfl, (hI118.depth (d := q.d - 1) (by first | omega | (simp only [gline_d, gload_d, gkeep_d, gkeepN_d, gtop_d, gbth_d, gboth_d, gkeepBelow_d, gkeep2_d, gkeep2N_d, gkeepAll_d, gset_d]; omega))), (hF118.pg (k := 3) (f := 3) (by decide)), rfl⟩
set_option maxHeartbeats 4000000 in
theorem c_GN_indirect (l : Launch) {E : Bs} (hE : Hb E) {ρ : Nat → Nat} {g A : Nat → Nat → Int32} {n : Nat → Nat} {tx : Value} {q : GS} (hI : GnI q g A n) (h2 : 2 ≤ q.d) (hB : Fit (gindirect q)) : CW l E DC AC y_GN_indirect b_GN_indirect 2 none ({ frames := 10, cells := 64, slots := 4096, locals := 215 } : Room) [.ref (E.o 3)] ρ g A n tx (fun r ρ' g' A' n' tx' => r = none ∧ GnI (gindirect q) g' A' n' ∧ GnF g A n g' A' n' ∧ tx' = tx) := by
  refine CW.start [some (.ref (E.o 3)), none] hE (by decide) (Nat.le_of_ble_eq_true rfl) rfl ?_
  intro p e s m args below meth c G
  have hd := hI.dle
  have hB1 : Fit (gline 9 5 (gboth (gkeep2N (q.d - 2) q))) := hB
  have hB2 : Fit (gboth (gkeep2N (q.d - 2) q)) := hB1.of (QLe.line _ _ _)
  have hB3 : Fit (gkeep2N (q.d - 2) q) := hB2.of (QLe.both _)
  have J2 : ∀ (d k : Nat) (ρ1 : Nat → Nat) (g1 A1 : Nat → Nat → Int32) (n1 : Nat → Nat), k + 2 + d = q.d → GnI (gkeep2N k q) g1 A1 n1 → GnF g A n g1 A1 n1 → V p l e ({ frames := 10, cells := 64, slots := 4096, locals := 215 } : Room) s m args below meth c 2 (Sy E DC AC s.heap ρ1 g1 A1 n1 tx) (k + if ((gkeep2N k q).kf (q.d - 1)).1 = 5 then 0 else 1) (64 * (k + if ((gkeep2N k q).kf (q.d - 1)).1 = 5 then 0 else 1)) (MQ below (QW E DC AC (fun r ρ' g' A' n' tx' => r = none ∧ GnI (gindirect q) g' A' n' ∧ GnF g A n g' A' n' ∧ tx' = tx)) args s 64 4096 E.F) 2 [some (.ref (E.o 3)), some (.int (nI k))] [] := by
    intro d
    induction d with
    | zero =>
      intro k ρ1 g1 A1 n1 hk hI1 hF1
      refine v_iload_n G (decAt dd_GN_indirect 2 rfl) rfl ?_
      refine v_iconst G 2 (decAt dd_GN_indirect 3 rfl) (by decide) ?_
      refine v_iadd G (decAt dd_GN_indirect 4 rfl) ?_
      refine v_ri (y := (nI (k + 2))) (nI_add k 2) ?_
      refine v_aload_n G (decAt dd_GN_indirect 5 rfl) rfl ?_
      refine v_geti G (decAt dd_GN_indirect 6 rfl) f_GN_44 ?_
      refine v_ri (y := (nI q.d)) (hI1.dep.trans (congrArg nI (by simp only [gline_d, gload_d, gkeep_d, gkeepN_d, gtop_d, gbth_d, gboth_d, gkeepBelow_d, gkeep2_d, gkeep2N_d, gkeepAll_d, gset_d]))) ?_
      refine v_icmp_ge G 23 (decAt dd_GN_indirect 7 rfl) (by decide) (fun c9 => ?_) (fun c9 => ?_)
      · skip
        have ek : k = q.d - 2 := by omega
        subst ek
        refine v_room 60 3840 (by split <;> omega) (by split <;> omega) ?_
        refine v_aload_n G (decAt dd_GN_indirect 13 rfl) rfl ?_
        refine v_callVv G (As := []) (P := fun ρ' g' A' n' tx' => GnI (gboth (gkeep2N (q.d - 2) q)) g' A' n' ∧ GnF g1 A1 n1 g' A' n' ∧ tx' = tx) (rm := ({ frames := 9, cells := 3, slots := 192, locals := 194 } : Room)) (decAt dd_GN_indirect 14 rfl) k_GN_202 (c_GN_both l hE hI1 (by first | omega | (simp only [gline_d, gload_d, gkeep_d, gkeepN_d, gtop_d, gbth_d, gboth_d, gkeepBelow_d, gkeep2_d, gkeep2N_d, gkeepAll_d, gset_d]; omega)) hB2) (by decide) rfl rfl rfl (Nat.le_of_ble_eq_true rfl) (by decide) (by decide) ?_
        rintro ρ119 g119 A119 n119 tx119 ⟨hI119, hX119, etx⟩
        replace etx := etx.symm; subst etx
        have hF119 := GnF.trans hF1 hX119
        refine v_aload_n G (decAt dd_GN_indirect 15 rfl) rfl ?_
        refine q_ldcs G (i := 9) (decAt dd_GN_indirect 16 rfl) rfl rfl rfl ?_
        refine v_iconst G 5 (decAt dd_GN_indirect 17 rfl) (by decide) ?_
        refine v_callVv G (As := [.ref (E.st (10 + 9)), .int 5]) (P := fun ρ' g' A' n' tx' => GnI (gline 9 5 (gboth (gkeep2N (q.d - 2) q))) g' A' n' ∧ GnF g119 A119 n119 g' A' n' ∧ tx' = tx) (rm := ({ frames := 5, cells := 0, slots := 0, locals := 107 } : Room)) (decAt dd_GN_indirect 18 rfl) k_GN_84 (c_GN_lineG l hE hI119 (i := 9) (v := 5) (by decide) hB1) (by decide) rfl rfl rfl (Nat.le_of_ble_eq_true rfl) (by decide) (by decide) ?_
        rintro ρ120 g120 A120 n120 tx120 ⟨hI120, hX120, etx⟩
        replace etx := etx.symm; subst etx
        have hF120 := GnF.trans hF119 hX120
        refine v_aload_n G (decAt dd_GN_indirect 19 rfl) rfl ?_
        refine v_dup G (decAt dd_GN_indirect 20 rfl) rfl ?_
        refine v_geti G (decAt dd_GN_indirect 21 rfl) f_GN_44 ?_
        refine v_ri (y := (nI q.d)) (hI120.dep.trans (congrArg nI (by simp only [gline_d, gload_d, gkeep_d, gkeepN_d, gtop_d, gbth_d, gboth_d, gkeepBelow_d, gkeep2_d, gkeep2N_d, gkeepAll_d, gset_d]))) ?_
        refine v_iconst G 2 (decAt dd_GN_indirect 22 rfl) (by decide) ?_
        refine v_isub G (decAt dd_GN_indirect 23 rfl) ?_
        refine v_ri (y := (nI (q.d - 2))) (nI_sb (a := q.d) (b := 2) (by omega)) ?_
        refine v_puti G (decAt dd_GN_indirect 24 rfl) f_GN_44 rfl rfl rfl ?_
        refine v_room 64 4096 (by decide) (by decide) ?_
        exact v_vret G (decAt dd_GN_indirect 25 rfl) rfl ⟨rfl, (hI120.depth (d := q.d - 2) (by first | omega | (simp only [gline_d, gload_d, gkeep_d, gkeepN_d, gtop_d, gbth_d, gboth_d, gkeepBelow_d, gkeep2_d, gkeep2N_d, gkeepAll_d, gset_d]; omega))), (hF120.pg (k := 3) (f := 3) (by decide)), rfl⟩
      · skip
        exact absurd (nI_le (by omega) (by omega)) c9
    | succ d ih =>
      intro k ρ1 g1 A1 n1 hk hI1 hF1
      have hkd2 := gkeep2N_d k q
      have h25 : (((gkeep2N k q).kf k).1 ≠ 4 ∨ ((gkeep2N k q).kf (q.d - 1)).1 ≠ 5) → ((gkeep2N (k + 1) q).kf (q.d - 1)).1 ≠ 5 := by
        have := gkeep2_5 k (gkeep2N k q)
        rw [hkd2] at this
        exact this
      by_cases hh : ((gkeep2N k q).kf (q.d - 1)).1 = 5
      · skip
        refine v_room k (64 * k) (by rw [if_pos hh]; omega) (by rw [if_pos hh]; omega) ?_
        by_cases h4 : ((gkeep2N k q).kf k).1 = 4
        · skip
          refine v_room k (64 * k) (by omega) (by omega) ?_
          refine v_iload_n G (decAt dd_GN_indirect 2 rfl) rfl ?_
          refine v_iconst G 2 (decAt dd_GN_indirect 3 rfl) (by decide) ?_
          refine v_iadd G (decAt dd_GN_indirect 4 rfl) ?_
          refine v_ri (y := (nI (k + 2))) (nI_add k 2) ?_
          refine v_aload_n G (decAt dd_GN_indirect 5 rfl) rfl ?_
          refine v_geti G (decAt dd_GN_indirect 6 rfl) f_GN_44 ?_
          refine v_ri (y := (nI q.d)) (hI1.dep.trans (congrArg nI (by simp only [gline_d, gload_d, gkeep_d, gkeepN_d, gtop_d, gbth_d, gboth_d, gkeepBelow_d, gkeep2_d, gkeep2N_d, gkeepAll_d, gset_d]))) ?_
          refine v_icmp_ge G 23 (decAt dd_GN_indirect 7 rfl) (by decide) (fun c9 => ?_) (fun c9 => ?_)
          · skip
            exact absurd c9 (nI_ge (by omega) (by omega))
          · skip
            refine v_aload_n G (decAt dd_GN_indirect 8 rfl) rfl ?_
            refine v_iload_n G (decAt dd_GN_indirect 9 rfl) rfl ?_
            refine v_callVv G (As := [.int (nI k)]) (P := fun ρ' g' A' n' tx' => GnI (gkeep2 k (gkeep2N k q)) g' A' n' ∧ GnF g1 A1 n1 g' A' n' ∧ tx' = tx) (rm := ({ frames := 9, cells := 0, slots := 0, locals := 194 } : Room)) (decAt dd_GN_indirect 10 rfl) k_GN_212 (c_GN_keep2_k l hE hI1 (k := k) (by rw [hkd2]; omega) h4) (by decide) rfl rfl rfl (Nat.le_of_ble_eq_true rfl) (by decide) ⟨by show k + 0 ≤ 64; omega, by show 64 * k + 0 ≤ 4096; omega⟩ ?_
            rintro ρ121 g121 A121 n121 tx121 ⟨hI121, hX121, etx⟩
            replace etx := etx.symm; subst etx
            have hF121 := GnF.trans hF1 hX121
            refine v_iinc_1 G (nI (k + 1)) (decAt dd_GN_indirect 11 rfl) ((nI_1 _)) (by decide) rfl ?_
            refine v_goto G 2 (decAt dd_GN_indirect 12 rfl) (by decide) ?_
            refine v_room (k + 1 + if ((gkeep2N (k + 1) q).kf (q.d - 1)).1 = 5 then 0 else 1) (64 * (k + 1 + if ((gkeep2N (k + 1) q).kf (q.d - 1)).1 = 5 then 0 else 1)) (by show k + 0 ≤ _; omega) (by show 64 * k + 0 ≤ _; omega) ?_
            exact ih (k + 1) _ _ _ _ (by omega) hI121 hF121
        · skip
          refine v_iload_n G (decAt dd_GN_indirect 2 rfl) rfl ?_
          refine v_iconst G 2 (decAt dd_GN_indirect 3 rfl) (by decide) ?_
          refine v_iadd G (decAt dd_GN_indirect 4 rfl) ?_
          refine v_ri (y := (nI (k + 2))) (nI_add k 2) ?_
          refine v_aload_n G (decAt dd_GN_indirect 5 rfl) rfl ?_
          refine v_geti G (decAt dd_GN_indirect 6 rfl) f_GN_44 ?_
          refine v_ri (y := (nI q.d)) (hI1.dep.trans (congrArg nI (by simp only [gline_d, gload_d, gkeep_d, gkeepN_d, gtop_d, gbth_d, gboth_d, gkeepBelow_d, gkeep2_d, gkeep2N_d, gkeepAll_d, gset_d]))) ?_
          refine v_icmp_ge G 23 (decAt dd_GN_indirect 7 rfl) (by decide) (fun c9 => ?_) (fun c9 => ?_)
          · skip
            exact absurd c9 (nI_ge (by omega) (by omega))
          · skip
            refine v_aload_n G (decAt dd_GN_indirect 8 rfl) rfl ?_
            refine v_iload_n G (decAt dd_GN_indirect 9 rfl) rfl ?_
            refine v_callVv G (As := [.int (nI k)]) (P := fun ρ' g' A' n' tx' => GnI (gkeep2 k (gkeep2N k q)) g' A' n' ∧ GnF g1 A1 n1 g' A' n' ∧ tx' = tx) (rm := ({ frames := 9, cells := 2, slots := 128, locals := 194 } : Room)) (decAt dd_GN_indirect 10 rfl) k_GN_212 (c_GN_keep2_b l hE hI1 (k := k) (by rw [hkd2]; omega) (hB3.of (QLe.keep2Nm (k := k + 1) (by omega) _))) (by decide) rfl rfl rfl (Nat.le_of_ble_eq_true rfl) (by decide) ⟨by show k + 2 ≤ 64; omega, by show 64 * k + 128 ≤ 4096; omega⟩ ?_
            rintro ρ122 g122 A122 n122 tx122 ⟨hI122, hX122, etx⟩
            replace etx := etx.symm; subst etx
            have hF122 := GnF.trans hF1 hX122
            refine v_iinc_1 G (nI (k + 1)) (decAt dd_GN_indirect 11 rfl) ((nI_1 _)) (by decide) rfl ?_
            refine v_goto G 2 (decAt dd_GN_indirect 12 rfl) (by decide) ?_
            refine v_room (k + 1 + if ((gkeep2N (k + 1) q).kf (q.d - 1)).1 = 5 then 0 else 1) (64 * (k + 1 + if ((gkeep2N (k + 1) q).kf (q.d - 1)).1 = 5 then 0 else 1)) (by rw [if_neg (h25 (Or.inl h4))]; show k + 2 ≤ _; omega) (by rw [if_neg (h25 (Or.inl h4))]; show 64 * k + 128 ≤ _; omega) ?_
            exact ih (k + 1) _ _ _ _ (by omega) hI122 hF122
      · skip
        refine v_room (k + 1) (64 * (k + 1)) (by rw [if_neg hh]; omega) (by rw [if_neg hh]; omega) ?_
        refine v_iload_n G (decAt dd_GN_indirect 2 rfl) rfl ?_
        refine v_iconst G 2 (decAt dd_GN_indirect 3 rfl) (by decide) ?_
        refine v_iadd G (decAt dd_GN_indirect 4 rfl) ?_
        refine v_ri (y := (nI (k + 2))) (nI_add k 2) ?_
        refine v_aload_n G (decAt dd_GN_indirect 5 rfl) rfl ?_
        refine v_geti G (decAt dd_GN_indirect 6 rfl) f_GN_44 ?_
        refine v_ri (y := (nI q.d)) (hI1.dep.trans (congrArg nI (by simp only [gline_d, gload_d, gkeep_d, gkeepN_d, gtop_d, gbth_d, gboth_d, gkeepBelow_d, gkeep2_d, gkeep2N_d, gkeepAll_d, gset_d]))) ?_
        refine v_icmp_ge G 23 (decAt dd_GN_indirect 7 rfl) (by decide) (fun c9 => ?_) (fun c9 => ?_)
        · skip
          exact absurd c9 (nI_ge (by omega) (by omega))
        · skip
          refine v_aload_n G (decAt dd_GN_indirect 8 rfl) rfl ?_
          refine v_iload_n G (decAt dd_GN_indirect 9 rfl) rfl ?_
          refine v_callVv G (As := [.int (nI k)]) (P := fun ρ' g' A' n' tx' => GnI (gkeep2 k (gkeep2N k q)) g' A' n' ∧ GnF g1 A1 n1 g' A' n' ∧ tx' = tx) (rm := ({ frames := 9, cells := 1, slots := 64, locals := 194 } : Room)) (decAt dd_GN_indirect 10 rfl) k_GN_212 (c_GN_keep2_a l hE hI1 (k := k) (by rw [hkd2]; omega) (hB3.of (QLe.keep2Nm (k := k + 1) (by omega) _)) (by rw [hkd2]; exact hh)) (by decide) rfl rfl rfl (Nat.le_of_ble_eq_true rfl) (by decide) ⟨by show k + 1 + 1 ≤ 64; omega, by show 64 * (k + 1) + 64 ≤ 4096; omega⟩ ?_
          rintro ρ123 g123 A123 n123 tx123 ⟨hI123, hX123, etx⟩
          replace etx := etx.symm; subst etx
          have hF123 := GnF.trans hF1 hX123
          refine v_iinc_1 G (nI (k + 1)) (decAt dd_GN_indirect 11 rfl) ((nI_1 _)) (by decide) rfl ?_
          refine v_goto G 2 (decAt dd_GN_indirect 12 rfl) (by decide) ?_
          refine v_room (k + 1 + if ((gkeep2N (k + 1) q).kf (q.d - 1)).1 = 5 then 0 else 1) (64 * (k + 1 + if ((gkeep2N (k + 1) q).kf (q.d - 1)).1 = 5 then 0 else 1)) (by rw [if_neg (h25 (Or.inr hh))]; show k + 1 + 1 ≤ _; omega) (by rw [if_neg (h25 (Or.inr hh))]; show 64 * (k + 1) + 64 ≤ _; omega) ?_
          exact ih (k + 1) _ _ _ _ (by omega) hI123 hF123
  refine v_iconst G 0 (decAt dd_GN_indirect 0 rfl) (by decide) ?_
  refine v_istore_1 G (decAt dd_GN_indirect 1 rfl) (by decide) rfl ?_
  refine v_room (0 + if ((gkeep2N 0 q).kf (q.d - 1)).1 = 5 then 0 else 1) (64 * (0 + if ((gkeep2N 0 q).kf (q.d - 1)).1 = 5 then 0 else 1)) (Nat.zero_le _) (Nat.zero_le _) ?_
  exact J2 (q.d - 2) 0 _ _ _ _ (by omega) hI (GnF.rf g A n)
set_option maxHeartbeats 4000000 in
theorem c_GN_bytes (l : Launch) {E : Bs} (hE : Hb E) {ρ : Nat → Nat} {g A : Nat → Nat → Int32} {n : Nat → Nat} {tx : Value} {q : GS} (hI : GnI q g A n) (h3 : 3 ≤ q.d) (hB : Fit (gbytes q)) : CW l E DC AC y_GN_bytes b_GN_bytes 2 none ({ frames := 10, cells := 64, slots := 4096, locals := 215 } : Room) [.ref (E.o 3)] ρ g A n tx (fun r ρ' g' A' n' tx' => r = none ∧ GnI (gbytes q) g' A' n' ∧ GnF g A n g' A' n' ∧ tx' = tx) := by
  refine CW.start [some (.ref (E.o 3)), none] hE (by decide) (Nat.le_of_ble_eq_true rfl) rfl ?_
  intro p e s m args below meth c G
  have hd := hI.dle
  have hC5 : Fit (gline 9 8 (gline 5 (nI (q.d - 1)) (gload (q.d - 3) (gline 6 (nI (q.d - 1)) (gline 9 7 (gboth (gkeep2N (q.d - 3) q))))))) := hB
  have hC4 := hC5.of (QLe.line _ _ _)
  have hC3 := hC4.of (QLe.line _ _ _)
  have hC2 := hC3.of (QLe.load _ _)
  have hC1 := hC2.of (QLe.line _ _ _)
  have hB2 := hC1.of (QLe.line _ _ _)
  have hB3 : Fit (gkeep2N (q.d - 3) q) := hB2.of (QLe.both _)
  have J2 : ∀ (d k : Nat) (ρ1 : Nat → Nat) (g1 A1 : Nat → Nat → Int32) (n1 : Nat → Nat), k + 3 + d = q.d → GnI (gkeep2N k q) g1 A1 n1 → GnF g A n g1 A1 n1 → V p l e ({ frames := 10, cells := 64, slots := 4096, locals := 215 } : Room) s m args below meth c 2 (Sy E DC AC s.heap ρ1 g1 A1 n1 tx) (k + if ((gkeep2N k q).kf (q.d - 1)).1 = 5 then 0 else 1) (64 * (k + if ((gkeep2N k q).kf (q.d - 1)).1 = 5 then 0 else 1)) (MQ below (QW E DC AC (fun r ρ' g' A' n' tx' => r = none ∧ GnI (gbytes q) g' A' n' ∧ GnF g A n g' A' n' ∧ tx' = tx)) args s 64 4096 E.F) 2 [some (.ref (E.o 3)), some (.int (nI k))] [] := by
    intro d
    induction d with
    | zero =>
      intro k ρ1 g1 A1 n1 hk hI1 hF1
      refine v_iload_n G (decAt dd_GN_bytes 2 rfl) rfl ?_
      refine v_iconst G 3 (decAt dd_GN_bytes 3 rfl) (by decide) ?_
      refine v_iadd G (decAt dd_GN_bytes 4 rfl) ?_
      refine v_ri (y := (nI (k + 3))) (nI_add k 3) ?_
      refine v_aload_n G (decAt dd_GN_bytes 5 rfl) rfl ?_
      refine v_geti G (decAt dd_GN_bytes 6 rfl) f_GN_44 ?_
      refine v_ri (y := (nI q.d)) (hI1.dep.trans (congrArg nI (by simp only [gline_d, gload_d, gkeep_d, gkeepN_d, gtop_d, gbth_d, gboth_d, gkeepBelow_d, gkeep2_d, gkeep2N_d, gkeepAll_d, gset_d]))) ?_
      refine v_icmp_ge G 23 (decAt dd_GN_bytes 7 rfl) (by decide) (fun c9 => ?_) (fun c9 => ?_)
      · skip
        have ek : k = q.d - 3 := by omega
        subst ek
        refine v_room 60 3840 (by split <;> omega) (by split <;> omega) ?_
        refine v_aload_n G (decAt dd_GN_bytes 13 rfl) rfl ?_
        refine v_callVv G (As := []) (P := fun ρ' g' A' n' tx' => GnI (gboth (gkeep2N (q.d - 3) q)) g' A' n' ∧ GnF g1 A1 n1 g' A' n' ∧ tx' = tx) (rm := ({ frames := 9, cells := 3, slots := 192, locals := 194 } : Room)) (decAt dd_GN_bytes 14 rfl) k_GN_202 (c_GN_both l hE hI1 (by first | omega | (simp only [gline_d, gload_d, gkeep_d, gkeepN_d, gtop_d, gbth_d, gboth_d, gkeepBelow_d, gkeep2_d, gkeep2N_d, gkeepAll_d, gset_d]; omega)) hB2) (by decide) rfl rfl rfl (Nat.le_of_ble_eq_true rfl) (by decide) (by decide) ?_
        rintro ρ124 g124 A124 n124 tx124 ⟨hI124, hX124, etx⟩
        replace etx := etx.symm; subst etx
        have hF124 := GnF.trans hF1 hX124
        refine v_aload_n G (decAt dd_GN_bytes 15 rfl) rfl ?_
        refine q_ldcs G (i := 9) (decAt dd_GN_bytes 16 rfl) rfl rfl rfl ?_
        refine v_bipush G 7 (decAt dd_GN_bytes 17 rfl) (by decide) ?_
        refine v_callVv G (As := [.ref (E.st (10 + 9)), .int 7]) (P := fun ρ' g' A' n' tx' => GnI (gline 9 7 (gboth (gkeep2N (q.d - 3) q))) g' A' n' ∧ GnF g124 A124 n124 g' A' n' ∧ tx' = tx) (rm := ({ frames := 5, cells := 0, slots := 0, locals := 107 } : Room)) (decAt dd_GN_bytes 18 rfl) k_GN_84 (c_GN_lineG l hE hI124 (i := 9) (v := 7) (by decide) hC1) (by decide) rfl rfl rfl (Nat.le_of_ble_eq_true rfl) (by decide) (by decide) ?_
        rintro ρ125 g125 A125 n125 tx125 ⟨hI125, hX125, etx⟩
        replace etx := etx.symm; subst etx
        have hF125 := GnF.trans hF124 hX125
        refine v_aload_n G (decAt dd_GN_bytes 19 rfl) rfl ?_
        refine q_ldcs G (i := 6) (decAt dd_GN_bytes 20 rfl) rfl rfl rfl ?_
        refine v_aload_n G (decAt dd_GN_bytes 21 rfl) rfl ?_
        refine v_geti G (decAt dd_GN_bytes 22 rfl) f_GN_44 ?_
        refine v_ri (y := (nI q.d)) (hI125.dep.trans (congrArg nI (by simp only [gline_d, gload_d, gkeep_d, gkeepN_d, gtop_d, gbth_d, gboth_d, gkeepBelow_d, gkeep2_d, gkeep2N_d, gkeepAll_d, gset_d]))) ?_
        refine v_iconst G 1 (decAt dd_GN_bytes 23 rfl) (by decide) ?_
        refine v_isub G (decAt dd_GN_bytes 24 rfl) ?_
        refine v_ri (y := (nI (q.d - 1))) (nI_sb (a := q.d) (b := 1) (by omega)) ?_
        refine v_callVv G (As := [.ref (E.st (10 + 6)), .int (nI (q.d - 1))]) (P := fun ρ' g' A' n' tx' => GnI (gline 6 (nI (q.d - 1)) (gline 9 7 (gboth (gkeep2N (q.d - 3) q)))) g' A' n' ∧ GnF g125 A125 n125 g' A' n' ∧ tx' = tx) (rm := ({ frames := 5, cells := 0, slots := 0, locals := 107 } : Room)) (decAt dd_GN_bytes 25 rfl) k_GN_84 (c_GN_lineG l hE hI125 (i := 6) (v := (nI (q.d - 1))) (by decide) hC2) (by decide) rfl rfl rfl (Nat.le_of_ble_eq_true rfl) (by decide) (by decide) ?_
        rintro ρ126 g126 A126 n126 tx126 ⟨hI126, hX126, etx⟩
        replace etx := etx.symm; subst etx
        have hF126 := GnF.trans hF125 hX126
        refine v_aload_n G (decAt dd_GN_bytes 26 rfl) rfl ?_
        refine v_aload_n G (decAt dd_GN_bytes 27 rfl) rfl ?_
        refine v_geti G (decAt dd_GN_bytes 28 rfl) f_GN_44 ?_
        refine v_ri (y := (nI q.d)) (hI126.dep.trans (congrArg nI (by simp only [gline_d, gload_d, gkeep_d, gkeepN_d, gtop_d, gbth_d, gboth_d, gkeepBelow_d, gkeep2_d, gkeep2N_d, gkeepAll_d, gset_d]))) ?_
        refine v_iconst G 3 (decAt dd_GN_bytes 29 rfl) (by decide) ?_
        refine v_isub G (decAt dd_GN_bytes 30 rfl) ?_
        refine v_ri (y := (nI (q.d - 3))) (nI_sb (a := q.d) (b := 3) (by omega)) ?_
        refine v_callVv G (As := [.int (nI (q.d - 3))]) (P := fun ρ' g' A' n' tx' => GnI (gload (q.d - 3) (gline 6 (nI (q.d - 1)) (gline 9 7 (gboth (gkeep2N (q.d - 3) q))))) g' A' n' ∧ GnF g126 A126 n126 g' A' n' ∧ tx' = tx) (rm := ({ frames := 7, cells := 1, slots := 64, locals := 152 } : Room)) (decAt dd_GN_bytes 31 rfl) k_GN_107 (c_GN_load l hE hI126 (k := q.d - 3) (by first | omega | (simp only [gline_d, gload_d, gkeep_d, gkeepN_d, gtop_d, gbth_d, gboth_d, gkeepBelow_d, gkeep2_d, gkeep2N_d, gkeepAll_d, gset_d]; omega)) hC3) (by decide) rfl rfl rfl (Nat.le_of_ble_eq_true rfl) (by decide) (by decide) ?_
        rintro ρ127 g127 A127 n127 tx127 ⟨hI127, hX127, etx⟩
        replace etx := etx.symm; subst etx
        have hF127 := GnF.trans hF126 hX127
        refine v_aload_n G (decAt dd_GN_bytes 32 rfl) rfl ?_
        refine q_ldcs G (i := 5) (decAt dd_GN_bytes 33 rfl) rfl rfl rfl ?_
        refine v_aload_n G (decAt dd_GN_bytes 34 rfl) rfl ?_
        refine v_geti G (decAt dd_GN_bytes 35 rfl) f_GN_44 ?_
        refine v_ri (y := (nI q.d)) (hI127.dep.trans (congrArg nI (by simp only [gline_d, gload_d, gkeep_d, gkeepN_d, gtop_d, gbth_d, gboth_d, gkeepBelow_d, gkeep2_d, gkeep2N_d, gkeepAll_d, gset_d]))) ?_
        refine v_iconst G 1 (decAt dd_GN_bytes 36 rfl) (by decide) ?_
        refine v_isub G (decAt dd_GN_bytes 37 rfl) ?_
        refine v_ri (y := (nI (q.d - 1))) (nI_sb (a := q.d) (b := 1) (by omega)) ?_
        refine v_callVv G (As := [.ref (E.st (10 + 5)), .int (nI (q.d - 1))]) (P := fun ρ' g' A' n' tx' => GnI (gline 5 (nI (q.d - 1)) (gload (q.d - 3) (gline 6 (nI (q.d - 1)) (gline 9 7 (gboth (gkeep2N (q.d - 3) q)))))) g' A' n' ∧ GnF g127 A127 n127 g' A' n' ∧ tx' = tx) (rm := ({ frames := 5, cells := 0, slots := 0, locals := 107 } : Room)) (decAt dd_GN_bytes 38 rfl) k_GN_84 (c_GN_lineG l hE hI127 (i := 5) (v := (nI (q.d - 1))) (by decide) hC4) (by decide) rfl rfl rfl (Nat.le_of_ble_eq_true rfl) (by decide) (by decide) ?_
        rintro ρ128 g128 A128 n128 tx128 ⟨hI128, hX128, etx⟩
        replace etx := etx.symm; subst etx
        have hF128 := GnF.trans hF127 hX128
        refine v_aload_n G (decAt dd_GN_bytes 39 rfl) rfl ?_
        refine q_ldcs G (i := 9) (decAt dd_GN_bytes 40 rfl) rfl rfl rfl ?_
        refine v_bipush G 8 (decAt dd_GN_bytes 41 rfl) (by decide) ?_
        refine v_callVv G (As := [.ref (E.st (10 + 9)), .int 8]) (P := fun ρ' g' A' n' tx' => GnI (gline 9 8 (gline 5 (nI (q.d - 1)) (gload (q.d - 3) (gline 6 (nI (q.d - 1)) (gline 9 7 (gboth (gkeep2N (q.d - 3) q))))))) g' A' n' ∧ GnF g128 A128 n128 g' A' n' ∧ tx' = tx) (rm := ({ frames := 5, cells := 0, slots := 0, locals := 107 } : Room)) (decAt dd_GN_bytes 42 rfl) k_GN_84 (c_GN_lineG l hE hI128 (i := 9) (v := 8) (by decide) hC5) (by decide) rfl rfl rfl (Nat.le_of_ble_eq_true rfl) (by decide) (by decide) ?_
        rintro ρ129 g129 A129 n129 tx129 ⟨hI129, hX129, etx⟩
        replace etx := etx.symm; subst etx
        have hF129 := GnF.trans hF128 hX129
        refine v_aload_n G (decAt dd_GN_bytes 43 rfl) rfl ?_
        refine v_dup G (decAt dd_GN_bytes 44 rfl) rfl ?_
        refine v_geti G (decAt dd_GN_bytes 45 rfl) f_GN_44 ?_
        refine v_ri (y := (nI q.d)) (hI129.dep.trans (congrArg nI (by simp only [gline_d, gload_d, gkeep_d, gkeepN_d, gtop_d, gbth_d, gboth_d, gkeepBelow_d, gkeep2_d, gkeep2N_d, gkeepAll_d, gset_d]))) ?_
        refine v_iconst G 3 (decAt dd_GN_bytes 46 rfl) (by decide) ?_
        refine v_isub G (decAt dd_GN_bytes 47 rfl) ?_
        refine v_ri (y := (nI (q.d - 3))) (nI_sb (a := q.d) (b := 3) (by omega)) ?_
        refine v_puti G (decAt dd_GN_bytes 48 rfl) f_GN_44 rfl rfl rfl ?_
        refine v_room 64 4096 (by decide) (by decide) ?_
        exact v_vret G (decAt dd_GN_bytes 49 rfl) rfl ⟨rfl, (hI129.depth (d := q.d - 3) (by first | omega | (simp only [gline_d, gload_d, gkeep_d, gkeepN_d, gtop_d, gbth_d, gboth_d, gkeepBelow_d, gkeep2_d, gkeep2N_d, gkeepAll_d, gset_d]; omega))), (hF129.pg (k := 3) (f := 3) (by decide)), rfl⟩
      · skip
        exact absurd (nI_le (by omega) (by omega)) c9
    | succ d ih =>
      intro k ρ1 g1 A1 n1 hk hI1 hF1
      have hkd2 := gkeep2N_d k q
      have h25 : (((gkeep2N k q).kf k).1 ≠ 4 ∨ ((gkeep2N k q).kf (q.d - 1)).1 ≠ 5) → ((gkeep2N (k + 1) q).kf (q.d - 1)).1 ≠ 5 := by
        have := gkeep2_5 k (gkeep2N k q)
        rw [hkd2] at this
        exact this
      by_cases hh : ((gkeep2N k q).kf (q.d - 1)).1 = 5
      · skip
        refine v_room k (64 * k) (by rw [if_pos hh]; omega) (by rw [if_pos hh]; omega) ?_
        by_cases h4 : ((gkeep2N k q).kf k).1 = 4
        · skip
          refine v_room k (64 * k) (by omega) (by omega) ?_
          refine v_iload_n G (decAt dd_GN_bytes 2 rfl) rfl ?_
          refine v_iconst G 3 (decAt dd_GN_bytes 3 rfl) (by decide) ?_
          refine v_iadd G (decAt dd_GN_bytes 4 rfl) ?_
          refine v_ri (y := (nI (k + 3))) (nI_add k 3) ?_
          refine v_aload_n G (decAt dd_GN_bytes 5 rfl) rfl ?_
          refine v_geti G (decAt dd_GN_bytes 6 rfl) f_GN_44 ?_
          refine v_ri (y := (nI q.d)) (hI1.dep.trans (congrArg nI (by simp only [gline_d, gload_d, gkeep_d, gkeepN_d, gtop_d, gbth_d, gboth_d, gkeepBelow_d, gkeep2_d, gkeep2N_d, gkeepAll_d, gset_d]))) ?_
          refine v_icmp_ge G 23 (decAt dd_GN_bytes 7 rfl) (by decide) (fun c9 => ?_) (fun c9 => ?_)
          · skip
            exact absurd c9 (nI_ge (by omega) (by omega))
          · skip
            refine v_aload_n G (decAt dd_GN_bytes 8 rfl) rfl ?_
            refine v_iload_n G (decAt dd_GN_bytes 9 rfl) rfl ?_
            refine v_callVv G (As := [.int (nI k)]) (P := fun ρ' g' A' n' tx' => GnI (gkeep2 k (gkeep2N k q)) g' A' n' ∧ GnF g1 A1 n1 g' A' n' ∧ tx' = tx) (rm := ({ frames := 9, cells := 0, slots := 0, locals := 194 } : Room)) (decAt dd_GN_bytes 10 rfl) k_GN_212 (c_GN_keep2_k l hE hI1 (k := k) (by rw [hkd2]; omega) h4) (by decide) rfl rfl rfl (Nat.le_of_ble_eq_true rfl) (by decide) ⟨by show k + 0 ≤ 64; omega, by show 64 * k + 0 ≤ 4096; omega⟩ ?_
            rintro ρ130 g130 A130 n130 tx130 ⟨hI130, hX130, etx⟩
            replace etx := etx.symm; subst etx
            have hF130 := GnF.trans hF1 hX130
            refine v_iinc_1 G (nI (k + 1)) (decAt dd_GN_bytes 11 rfl) ((nI_1 _)) (by decide) rfl ?_
            refine v_goto G 2 (decAt dd_GN_bytes 12 rfl) (by decide) ?_
            refine v_room (k + 1 + if ((gkeep2N (k + 1) q).kf (q.d - 1)).1 = 5 then 0 else 1) (64 * (k + 1 + if ((gkeep2N (k + 1) q).kf (q.d - 1)).1 = 5 then 0 else 1)) (by show k + 0 ≤ _; omega) (by show 64 * k + 0 ≤ _; omega) ?_
            exact ih (k + 1) _ _ _ _ (by omega) hI130 hF130
        · skip
          refine v_iload_n G (decAt dd_GN_bytes 2 rfl) rfl ?_
          refine v_iconst G 3 (decAt dd_GN_bytes 3 rfl) (by decide) ?_
          refine v_iadd G (decAt dd_GN_bytes 4 rfl) ?_
          refine v_ri (y := (nI (k + 3))) (nI_add k 3) ?_
          refine v_aload_n G (decAt dd_GN_bytes 5 rfl) rfl ?_
          refine v_geti G (decAt dd_GN_bytes 6 rfl) f_GN_44 ?_
          refine v_ri (y := (nI q.d)) (hI1.dep.trans (congrArg nI (by simp only [gline_d, gload_d, gkeep_d, gkeepN_d, gtop_d, gbth_d, gboth_d, gkeepBelow_d, gkeep2_d, gkeep2N_d, gkeepAll_d, gset_d]))) ?_
          refine v_icmp_ge G 23 (decAt dd_GN_bytes 7 rfl) (by decide) (fun c9 => ?_) (fun c9 => ?_)
          · skip
            exact absurd c9 (nI_ge (by omega) (by omega))
          · skip
            refine v_aload_n G (decAt dd_GN_bytes 8 rfl) rfl ?_
            refine v_iload_n G (decAt dd_GN_bytes 9 rfl) rfl ?_
            refine v_callVv G (As := [.int (nI k)]) (P := fun ρ' g' A' n' tx' => GnI (gkeep2 k (gkeep2N k q)) g' A' n' ∧ GnF g1 A1 n1 g' A' n' ∧ tx' = tx) (rm := ({ frames := 9, cells := 2, slots := 128, locals := 194 } : Room)) (decAt dd_GN_bytes 10 rfl) k_GN_212 (c_GN_keep2_b l hE hI1 (k := k) (by rw [hkd2]; omega) (hB3.of (QLe.keep2Nm (k := k + 1) (by omega) _))) (by decide) rfl rfl rfl (Nat.le_of_ble_eq_true rfl) (by decide) ⟨by show k + 2 ≤ 64; omega, by show 64 * k + 128 ≤ 4096; omega⟩ ?_
            rintro ρ131 g131 A131 n131 tx131 ⟨hI131, hX131, etx⟩
            replace etx := etx.symm; subst etx
            have hF131 := GnF.trans hF1 hX131
            refine v_iinc_1 G (nI (k + 1)) (decAt dd_GN_bytes 11 rfl) ((nI_1 _)) (by decide) rfl ?_
            refine v_goto G 2 (decAt dd_GN_bytes 12 rfl) (by decide) ?_
            refine v_room (k + 1 + if ((gkeep2N (k + 1) q).kf (q.d - 1)).1 = 5 then 0 else 1) (64 * (k + 1 + if ((gkeep2N (k + 1) q).kf (q.d - 1)).1 = 5 then 0 else 1)) (by rw [if_neg (h25 (Or.inl h4))]; show k + 2 ≤ _; omega) (by rw [if_neg (h25 (Or.inl h4))]; show 64 * k + 128 ≤ _; omega) ?_
            exact ih (k + 1) _ _ _ _ (by omega) hI131 hF131
      · skip
        refine v_room (k + 1) (64 * (k + 1)) (by rw [if_neg hh]; omega) (by rw [if_neg hh]; omega) ?_
        refine v_iload_n G (decAt dd_GN_bytes 2 rfl) rfl ?_
        refine v_iconst G 3 (decAt dd_GN_bytes 3 rfl) (by decide) ?_
        refine v_iadd G (decAt dd_GN_bytes 4 rfl) ?_
        refine v_ri (y := (nI (k + 3))) (nI_add k 3) ?_
        refine v_aload_n G (decAt dd_GN_bytes 5 rfl) rfl ?_
        refine v_geti G (decAt dd_GN_bytes 6 rfl) f_GN_44 ?_
        refine v_ri (y := (nI q.d)) (hI1.dep.trans (congrArg nI (by simp only [gline_d, gload_d, gkeep_d, gkeepN_d, gtop_d, gbth_d, gboth_d, gkeepBelow_d, gkeep2_d, gkeep2N_d, gkeepAll_d, gset_d]))) ?_
        refine v_icmp_ge G 23 (decAt dd_GN_bytes 7 rfl) (by decide) (fun c9 => ?_) (fun c9 => ?_)
        · skip
          exact absurd c9 (nI_ge (by omega) (by omega))
        · skip
          refine v_aload_n G (decAt dd_GN_bytes 8 rfl) rfl ?_
          refine v_iload_n G (decAt dd_GN_bytes 9 rfl) rfl ?_
          refine v_callVv G (As := [.int (nI k)]) (P := fun ρ' g' A' n' tx' => GnI (gkeep2 k (gkeep2N k q)) g' A' n' ∧ GnF g1 A1 n1 g' A' n' ∧ tx' = tx) (rm := ({ frames := 9, cells := 1, slots := 64, locals := 194 } : Room)) (decAt dd_GN_bytes 10 rfl) k_GN_212 (c_GN_keep2_a l hE hI1 (k := k) (by rw [hkd2]; omega) (hB3.of (QLe.keep2Nm (k := k + 1) (by omega) _)) (by rw [hkd2]; exact hh)) (by decide) rfl rfl rfl (Nat.le_of_ble_eq_true rfl) (by decide) ⟨by show k + 1 + 1 ≤ 64; omega, by show 64 * (k + 1) + 64 ≤ 4096; omega⟩ ?_
          rintro ρ132 g132 A132 n132 tx132 ⟨hI132, hX132, etx⟩
          replace etx := etx.symm; subst etx
          have hF132 := GnF.trans hF1 hX132
          refine v_iinc_1 G (nI (k + 1)) (decAt dd_GN_bytes 11 rfl) ((nI_1 _)) (by decide) rfl ?_
          refine v_goto G 2 (decAt dd_GN_bytes 12 rfl) (by decide) ?_
          refine v_room (k + 1 + if ((gkeep2N (k + 1) q).kf (q.d - 1)).1 = 5 then 0 else 1) (64 * (k + 1 + if ((gkeep2N (k + 1) q).kf (q.d - 1)).1 = 5 then 0 else 1)) (by rw [if_neg (h25 (Or.inr hh))]; show k + 1 + 1 ≤ _; omega) (by rw [if_neg (h25 (Or.inr hh))]; show 64 * (k + 1) + 64 ≤ _; omega) ?_
          exact ih (k + 1) _ _ _ _ (by omega) hI132 hF132
  refine v_iconst G 0 (decAt dd_GN_bytes 0 rfl) (by decide) ?_
  refine v_istore_1 G (decAt dd_GN_bytes 1 rfl) (by decide) rfl ?_
  refine v_room (0 + if ((gkeep2N 0 q).kf (q.d - 1)).1 = 5 then 0 else 1) (64 * (0 + if ((gkeep2N 0 q).kf (q.d - 1)).1 = 5 then 0 else 1)) (Nat.zero_le _) (Nat.zero_le _) ?_
  exact J2 (q.d - 3) 0 _ _ _ _ (by omega) hI (GnF.rf g A n)
