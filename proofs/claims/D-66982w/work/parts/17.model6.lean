/-! the plain form: heights along all ways -/
theorem hgt_toInt {h M : Nat} (hh : h ≤ 60) (hM : M ≤ 20) : (nI h + stv 1 M).toInt = (h : Int) + gI M := by
  have hb : ∀ M, M ≤ 20 → -3 ≤ gI M ∧ gI M ≤ 1 := by decide
  have := hb M hM
  rw [Int32.toInt_add, nI_toInt (by omega), show (stv 1 M).toInt = gI M from rfl]
  rw [Int.bmod_eq_of_le] <;> omega
theorem hgt1_toInt {h M : Nat} (hh : h ≤ 60) (hM : M ≤ 20) : (nI h + stv 1 M - 1).toInt = (h : Int) + gI M - 1 := by
  have hb : ∀ M, M ≤ 20 → -3 ≤ gI M ∧ gI M ≤ 1 := by decide
  have := hb M hM
  rw [Int32.toInt_sub, hgt_toInt hh hM, show (1 : Int32).toInt = 1 from rfl]
  rw [Int.bmod_eq_of_le] <;> omega
theorem take_give : ∀ M, M ≤ 20 → 0 ≤ tI M + gI M ∧ (M = 18 → 0 ≤ tI M + gI M - 1) := by decide
theorem le60 {x : Int32} : x ≤ 60 ↔ x.toInt ≤ 60 := by rw [Int32.le_iff_toInt_le]; rfl
theorem as_nI {x : Int32} {v : Int} (h : x.toInt = v) (h0 : 0 ≤ v) (h1 : v ≤ 60) : x = nI v.toNat := by
  apply Int32.toInt_inj.mp
  rw [nI_toInt (by omega), h]
  omega
theorem take_lt {h M : Nat} (hh : h ≤ 60) : nI h < stv 0 M ↔ ¬ tI M ≤ h := by
  rw [Int32.lt_iff_toInt_lt, nI_toInt (by omega), show (stv 0 M).toInt = tI M from rfl]
  omega
theorem nx0_le {cd : Cod} {i t : Nat} (h : nx0 cd i = some t) : t ≤ i + 2 := by
  unfold nx0 at h
  repeat' split at h
  all_goals first | (cases h; done) | (simp only [Option.some.injEq] at h; omega)
theorem nx1_lt {cd : Cod} {i t : Nat} (h : nx1 cd i = some t) : t < cd.length := by
  unfold nx1 at h
  repeat' split at h
  all_goals first | (cases h; done) | exact lbl_lt h
/-- what a height that comes does to the array -/
theorem comes_ok {cd : Cod} {H : Nat → Int32} {t : Nat} {x : Int32} {v : Int} {b : Bool} (hx : x.toInt = v) (hv : 0 ≤ v) (hr : Reach cd t v) (hA : EvA cd H) (hb : b = true ↔ (t < cd.length ∧ x ≤ 60 ∧ (H t = -1 ∨ H t = x))) :
    (b = true → t < cd.length ∧ (∃ h2 : Nat, v = h2 ∧ h2 ≤ 60 ∧ va_up H t x t = nI h2) ∧ HLe H (va_up H t x) ∧ EvA cd (va_up H t x)) ∧ (b = false → noTyp cd) := by
  constructor
  · intro h
    obtain ⟨h1, h2, h3⟩ := hb.mp h
    have h2 := le60.mp h2
    have ex := as_nI hx hv (by omega)
    refine ⟨h1, ⟨v.toNat, by omega, by omega, by rw [va_up_self]; exact ex⟩, HLe.up h3, fun i hi hne => ?_⟩
    by_cases e : i = t
    · subst e
      rw [va_up_self] at hne ⊢
      exact ⟨v.toNat, by omega, ex, by rw [show ((v.toNat : Nat) : Int) = v by omega]; exact hr⟩
    · rw [va_up_ne _ _ e] at hne ⊢
      exact hA i hi hne
  · intro h
    by_cases h1 : t < cd.length
    · by_cases h2 : v ≤ 60
      · have h3 : ¬ (H t = -1 ∨ H t = x) := fun z => by
          have := hb.mpr ⟨h1, le60.mpr (by omega), z⟩
          rw [h] at this; cases this
        obtain ⟨h4, q1, q2, q3⟩ := hA t h1 (fun z => h3 (Or.inl z))
        refine noTyp_two hr q3 (fun z => h3 (Or.inr ?_))
        rw [q2, as_nI hx hv (by omega), z]
        rfl
      · exact noTyp_out hr (Or.inr (by omega))
    · exact noTyp_out hr (Or.inl (by omega))
def EvI (cd : Cod) (H go : Nat → Int32) (good : Bool) : Prop := H 0 = nI 0 ∧ EvA cd H ∧ (good = true → ∀ j, j < cd.length → go j ≠ 0 → Clo cd H j) ∧ (good = false → noTyp cd)

set_option maxHeartbeats 4000000 in
theorem c_MD_isEven (l : Launch) {E : Bs} (hE : Hb E) {ρ : Nat → Nat} {g A : Nat → Nat → Int32} {n : Nat → Nat} {tx : Value} {cd : Cod} (hn : MN n) (hs : g 6 1 = nI cd.length) (hsz : cd.length ≤ 400) (hpos : 0 < cd.length) (hC : CodeIs cd (A 29) (A 30)) (hL : LabC cd) : CW l E DM AM y_MD_isEven b_MD_isEven 5 (some .boolean) ({ frames := 2, cells := 0, slots := 0, locals := 46 } : Room) [.ref (E.o 6)] ρ g A n tx (fun r ρ' g' A' n' tx' => ∃ b : Bool, r = some (.int (bI b)) ∧ (b = true → HtsOK cd (A' 33)) ∧ (b = false → noTyp cd) ∧ ρ' = ρ ∧ g' = g ∧ n' = n ∧ tx' = tx ∧ ∀ i, i ≠ 33 → i ≠ 34 → A' i = A i) := by
  obtain ⟨hn1, hn2, hn3, hn4, hn5, hn6, hn7⟩ := hn
  refine CW.start [some (.ref (E.o 6)), none, none, none, none] hE (by decide) (Nat.le_of_ble_eq_true rfl) rfl ?_
  intro p e s m args below meth c G
  have J41 : ∀ (μ : Nat) (A1 : Nat → Nat → Int32) (good more : Bool) (x3 x4 : Option Value), (∀ i, i ≠ 33 → i ≠ 34 → A1 i = A i) → EvI cd (A1 33) (A1 34) good → (more = false → good = true → ∀ j, j < cd.length → A1 33 j = -1 ∨ A1 34 j ≠ 0) → (more = true → cnt (A1 34) cd.length < μ) → V p l e ({ frames := 2, cells := 0, slots := 0, locals := 46 } : Room) s m args below meth c 5 (Sy E DM AM s.heap ρ g A1 n tx) 0 0 (MQ below (QW E DM AM (fun r ρ' g' A' n' tx' => ∃ b : Bool, r = some (.int (bI b)) ∧ (b = true → HtsOK cd (A' 33)) ∧ (b = false → noTyp cd) ∧ ρ' = ρ ∧ g' = g ∧ n' = n ∧ tx' = tx ∧ ∀ i, i ≠ 33 → i ≠ 34 → A' i = A i)) args s 0 0 E.F) 41 [some (.ref (E.o 6)), some (.int (bI good)), some (.int (bI more)), x3, x4] [] := by
    intro μ
    induction μ with
    | zero =>
      intro A1 good more x3 x4 hfr hI hM hc
      cases more with
      | true => exact absurd (hc rfl) (by omega)
      | false =>
        refine v_iload_n G (decAt dd_MD_isEven 27 rfl) rfl ?_
        refine v_if_eq G 235 (decAt dd_MD_isEven 28 rfl) (by decide) (fun c42 => ?_) (fun c42 => ?_)
        · skip
          refine v_iload_n G (decAt dd_MD_isEven 138 rfl) rfl ?_
          exact v_zret G (decAt dd_MD_isEven 139 rfl) rfl (by unfold bI; split <;> rfl) ⟨good, rfl, fun hg => ⟨hI.1, hI.2.1, fun j hj hne => hI.2.2.1 hg j hj ((hM rfl hg j hj).resolve_left hne)⟩, hI.2.2.2, rfl, rfl, rfl, rfl, hfr⟩
        · skip
          exact absurd rfl c42
    | succ μ ih41 =>
      intro A1 good more x3 x4 hfr hI hM hc
      cases more with
      | false =>
        refine v_iload_n G (decAt dd_MD_isEven 27 rfl) rfl ?_
        refine v_if_eq G 235 (decAt dd_MD_isEven 28 rfl) (by decide) (fun c42 => ?_) (fun c42 => ?_)
        · skip
          refine v_iload_n G (decAt dd_MD_isEven 138 rfl) rfl ?_
          exact v_zret G (decAt dd_MD_isEven 139 rfl) rfl (by unfold bI; split <;> rfl) ⟨good, rfl, fun hg => ⟨hI.1, hI.2.1, fun j hj hne => hI.2.2.1 hg j hj ((hM rfl hg j hj).resolve_left hne)⟩, hI.2.2.2, rfl, rfl, rfl, rfl, hfr⟩
        · skip
          exact absurd rfl c42
      | true =>
        have hK := hc rfl
        generalize hKe : cnt (A1 34) cd.length = K at hK
        have J53 : ∀ (d i : Nat) (A1 : Nat → Nat → Int32) (good more : Bool) (x4 : Option Value), i + d = cd.length → (∀ i, i ≠ 33 → i ≠ 34 → A1 i = A i) → EvI cd (A1 33) (A1 34) good → (more = false → ∀ j, j < i → A1 33 j = -1 ∨ A1 34 j ≠ 0) → (more = true → cnt (A1 34) cd.length < K) → cnt (A1 34) cd.length ≤ K → V p l e ({ frames := 2, cells := 0, slots := 0, locals := 46 } : Room) s m args below meth c 5 (Sy E DM AM s.heap ρ g A1 n tx) 0 0 (MQ below (QW E DM AM (fun r ρ' g' A' n' tx' => ∃ b : Bool, r = some (.int (bI b)) ∧ (b = true → HtsOK cd (A' 33)) ∧ (b = false → noTyp cd) ∧ ρ' = ρ ∧ g' = g ∧ n' = n ∧ tx' = tx ∧ ∀ i, i ≠ 33 → i ≠ 34 → A' i = A i)) args s 0 0 E.F) 53 [some (.ref (E.o 6)), some (.int (bI good)), some (.int (bI more)), some (.int (nI i)), x4] [] := by
          intro d
          induction d with
          | zero =>
            intro i A1 good more x4 hi hfr hI hM hc1 hc2
            have hi : i = cd.length := hi
            refine v_iload_n G (decAt dd_MD_isEven 35 rfl) rfl ?_
            refine v_aload_n G (decAt dd_MD_isEven 36 rfl) rfl ?_
            refine v_geti G (decAt dd_MD_isEven 37 rfl) f_MD_36 ?_
            refine v_ri (y := (nI cd.length)) hs ?_
            refine v_icmp_ge G 232 (decAt dd_MD_isEven 38 rfl) (by decide) (fun c58 => ?_) (fun c58 => ?_)
            · skip
              refine v_goto G 41 (decAt dd_MD_isEven 137 rfl) (by decide) ?_
              exact ih41 A1 good more _ _ hfr hI (fun q _ j hj => hM q j (by omega)) (fun q => by have := hc1 q; omega)
            · skip
              exact absurd (nI_le (by omega) (by omega)) c58
          | succ d ih53 =>
            intro i A1 good more x4 hi hfr hI hM hc1 hc2
            have hil : i < cd.length := by omega
            have hCA : CodeIs cd (A1 29) (A1 30) := by rw [hfr 29 (by decide) (by decide), hfr 30 (by decide) (by decide)]; exact hC
            obtain ⟨⟨M, k⟩, hi0⟩ : ∃ q, cd[i]? = some q := ⟨cd[i], List.getElem?_eq_getElem hil⟩
            obtain ⟨hN1, hN2, hN3⟩ := hCA i M k hi0
            have JP : good = true → A1 34 i = 0 → ∀ h : Nat, h ≤ 60 → A1 33 i = nI h → Reach cd i h → V p l e ({ frames := 2, cells := 0, slots := 0, locals := 46 } : Room) s m args below meth c 5 (Sy E DM AM s.heap ρ g A1 n tx) 0 0 (MQ below (QW E DM AM (fun r ρ' g' A' n' tx' => ∃ b : Bool, r = some (.int (bI b)) ∧ (b = true → HtsOK cd (A' 33)) ∧ (b = false → noTyp cd) ∧ ρ' = ρ ∧ g' = g ∧ n' = n ∧ tx' = tx ∧ ∀ i, i ≠ 33 → i ≠ 34 → A' i = A i)) args s 0 0 E.F) 87 [some (.ref (E.o 6)), some (.int (bI good)), some (.int (bI more)), some (.int (nI i)), x4] [] := by
              intro hgood hgo0 h hh60 hh hreach
              have hH := hI.1
              have h18 : ∀ B : Nat → Nat → Int32, CodeIs cd (B 29) (B 30) → B 29 i = 18 → i + 1 < 400 := fun B hB z => by
                obtain ⟨k', hk'⟩ := (hL i M k hi0).2.2.2.2 ((nI_eq (a := M) (b := 18) (by omega) (by omega)).mp (((hB i M k hi0).1).symm.trans z))
                have := (List.getElem?_eq_some_iff.mp hk').1
                omega
              have J226 : ∀ (b : Bool) (A3 : Nat → Nat → Int32), (∀ q, q ≠ 33 → A3 q = (va_up A1 34 (va_up (A1 34) i 1)) q) → HLe (A1 33) (A3 33) → EvA cd (A3 33) → (b = true → Clo cd (A3 33) i) → (b = false → noTyp cd) → V p l e ({ frames := 2, cells := 0, slots := 0, locals := 46 } : Room) s m args below meth c 5 (Sy E DM AM s.heap ρ g A3 n tx) 0 0 (MQ below (QW E DM AM (fun r ρ' g' A' n' tx' => ∃ b : Bool, r = some (.int (bI b)) ∧ (b = true → HtsOK cd (A' 33)) ∧ (b = false → noTyp cd) ∧ ρ' = ρ ∧ g' = g ∧ n' = n ∧ tx' = tx ∧ ∀ i, i ≠ 33 → i ≠ 34 → A' i = A i)) args s 0 0 E.F) 226 [some (.ref (E.o 6)), some (.int (bI b)), some (.int 1), some (.int (nI i)), some (.int (nI h + stv 1 M))] [] := by
                intro b A3 hA3 hle hEA hbt hbf
                have hgo3 : A3 34 = va_up (A1 34) i 1 := hA3 34 (by decide)
                have hcn : cnt (A3 34) cd.length + 1 = cnt (A1 34) cd.length := by rw [hgo3]; exact cnt_up (by decide) hil hgo0
                refine v_iinc_3 G (nI (i + 1)) (decAt dd_MD_isEven 135 rfl) (nI_1 i) (by decide) rfl ?_
                refine v_goto G 53 (decAt dd_MD_isEven 136 rfl) (by decide) ?_
                exact ih53 (i + 1) A3 b true _ (by omega) (fun q h1 h2 => by rw [hA3 q h1, va_up_ne _ _ h2]; exact hfr q h1 h2)
                  ⟨by rw [hle 0 (by rw [hH]; exact nI_m1 (by omega))]; exact hH, hEA, fun hb j hj hne => by
                    by_cases e : j = i
                    · subst e; exact hbt hb
                    · rw [hgo3, va_up_ne _ _ e] at hne
                      exact (hI.2.2.1 hgood j hj hne).mono hle, hbf⟩
                  (fun q => (by cases q)) (fun _ => by omega) (by omega)
              have J173 : ∀ (b : Bool) (A3 : Nat → Nat → Int32), (∀ q, q ≠ 33 → A3 q = (va_up A1 34 (va_up (A1 34) i 1)) q) → HLe (A1 33) (A3 33) → EvA cd (A3 33) → (b = true → tI M ≤ h ∧ ∀ t, nx0 cd i = some t → t < cd.length ∧ ∃ h2 : Nat, (h : Int) + gI M = h2 ∧ h2 ≤ 60 ∧ A3 33 t = nI h2) → (b = false → noTyp cd) → V p l e ({ frames := 2, cells := 0, slots := 0, locals := 46 } : Room) s m args below meth c 5 (Sy E DM AM s.heap ρ g A3 n tx) 0 0 (MQ below (QW E DM AM (fun r ρ' g' A' n' tx' => ∃ b : Bool, r = some (.int (bI b)) ∧ (b = true → HtsOK cd (A' 33)) ∧ (b = false → noTyp cd) ∧ ρ' = ρ ∧ g' = g ∧ n' = n ∧ tx' = tx ∧ ∀ i, i ≠ 33 → i ≠ 34 → A' i = A i)) args s 0 0 E.F) 173 [some (.ref (E.o 6)), some (.int (bI b)), some (.int 1), some (.int (nI i)), some (.int (nI h + stv 1 M))] [] := by
                intro b A3 hA3 hle hEA hbt hbf
                have hC3 : CodeIs cd (A3 29) (A3 30) := (by rw [hA3 29 (by decide), hA3 30 (by decide)]; exact hCA)
                have hN3' : A3 29 i = nI M := (hC3 i M k hi0).1
                refine v_iload_n G (decAt dd_MD_isEven 105 rfl) rfl ?_
                refine v_if_eq G 224 (decAt dd_MD_isEven 106 rfl) (by decide) (fun c174 => ?_) (fun c174 => ?_)
                · skip
                  refine v_iconst G 0 (decAt dd_MD_isEven 133 rfl) (by decide) ?_
                  refine v_istore_1 G (decAt dd_MD_isEven 134 rfl) (by decide) rfl ?_
                  have hbf1 : b = false := by cases b with | true => exact absurd c174 (by decide) | false => rfl
                  exact J226 false A3 hA3 hle hEA (fun q => (by cases q)) (fun _ => hbf hbf1)
                · skip
                  have hbt1 : b = true := eq_true_of_ne_false (fun z => c174 (bI_f z))
                  obtain ⟨htk, hw0⟩ := hbt hbt1
                  refine v_aload_n G (decAt dd_MD_isEven 107 rfl) rfl ?_
                  refine v_iload_n G (decAt dd_MD_isEven 108 rfl) rfl ?_
                  refine v_iconst G 1 (decAt dd_MD_isEven 109 rfl) (by decide) ?_
                  refine v_callVis G (As := [.int (nI i), .int 1]) (decAt dd_MD_isEven 110 rfl) k_MD_57 (c_MD_way l hE (sz := cd.length) ⟨hn1, hn2, hn3, hn4, hn5, hn6, hn7⟩ hs hsz hil (h18 A3 hC3)) rfl rfl rfl rfl (Nat.le_of_ble_eq_true rfl) (by decide) rfl rfl (by decide) ?_
                  refine v_ri (y := oI (nx1 cd i)) (wayI_1 hC3 hL hi0) ?_
                  refine v_iconst G (-1) (decAt dd_MD_isEven 111 rfl) (by decide) ?_
                  refine v_icmp_eq G 220 (decAt dd_MD_isEven 112 rfl) (by decide) (fun c184 => ?_) (fun c184 => ?_)
                  · skip
                    refine v_iconst G 1 (decAt dd_MD_isEven 131 rfl) (by decide) ?_
                    refine v_goto G 225 (decAt dd_MD_isEven 132 rfl) (by decide) ?_
                    refine v_istore_1 G (decAt dd_MD_isEven 134 rfl) (by decide) rfl ?_
                    have hx1 : nx1 cd i = none := by
                      cases hq : nx1 cd i with
                      | none => rfl
                      | some t => rw [hq] at c184; exact absurd c184 (nI_m1 (by have := nx1_lt hq; omega))
                    refine J226 true A3 hA3 hle hEA (fun _ => ⟨h, M, k, hi0, (hle i (by rw [hh]; exact nI_m1 (by omega))).trans hh, hh60, htk, fun t h' hw => ?_⟩) (fun q => (by cases q))
                    obtain ⟨n', k', q1, q2⟩ := hw
                    cases hi0.symm.trans q1
                    rcases q2 with ⟨q2, rfl⟩ | ⟨q2, -⟩
                    · exact hw0 t q2
                    · rw [hx1] at q2; cases q2
                  · skip
                    obtain ⟨t, ht⟩ : ∃ t, nx1 cd i = some t := by
                      cases hq : nx1 cd i with
                      | none => rw [hq] at c184; exact absurd rfl c184
                      | some t => exact ⟨t, rfl⟩
                    refine v_aload_n G (decAt dd_MD_isEven 113 rfl) rfl ?_
                    refine v_aload_n G (decAt dd_MD_isEven 114 rfl) rfl ?_
                    refine v_iload_n G (decAt dd_MD_isEven 115 rfl) rfl ?_
                    refine v_iconst G 1 (decAt dd_MD_isEven 116 rfl) (by decide) ?_
                    refine v_callVis G (As := [.int (nI i), .int 1]) (decAt dd_MD_isEven 117 rfl) k_MD_57 (c_MD_way l hE (sz := cd.length) ⟨hn1, hn2, hn3, hn4, hn5, hn6, hn7⟩ hs hsz hil (h18 A3 hC3)) rfl rfl rfl rfl (Nat.le_of_ble_eq_true rfl) (by decide) rfl rfl (by decide) ?_
                    refine v_ri (y := oI (nx1 cd i)) (wayI_1 hC3 hL hi0) ?_
                    rw [ht]
                    refine v_st (ρ' := ρ) (g' := g) (A' := A3) (n' := n) (tx' := tx) rfl rfl rfl rfl rfl ?_
                    refine v_aload_n G (decAt dd_MD_isEven 118 rfl) rfl ?_
                    refine v_geta G (decAt dd_MD_isEven 119 rfl) f_MD_7 ?_
                    refine v_iload_n G (decAt dd_MD_isEven 120 rfl) rfl ?_
                    refine v_iald G 29 _ (decAt dd_MD_isEven 121 rfl) (by decide) rfl (by first | with_reducible rfl | with_reducible exact nI_1 _ | with_reducible exact nI_add _ _ | assumption) (by omega) ?_
                    refine v_ri (y := nI M) hN3' ?_
                    refine v_bipush G 18 (decAt dd_MD_isEven 122 rfl) (by decide) ?_
                    refine v_icmp_ne G 212 (decAt dd_MD_isEven 123 rfl) (by decide) (fun c202 => ?_) (fun c202 => ?_)
                    · skip
                      refine v_iload G (decAt dd_MD_isEven 128 rfl) rfl ?_
                      refine v_callVi0 G (As := [.int (nI t), .int (nI h + stv 1 M)]) (P := fun v ρ' g' A' n' tx' => ∃ b : Bool, v = bI b ∧ (b = true ↔ (t < cd.length ∧ (nI h + stv 1 M) ≤ 60 ∧ (A3 33 t = -1 ∨ A3 33 t = (nI h + stv 1 M)))) ∧ ρ' = ρ ∧ g' = g ∧ A' = (if b then va_up A3 33 (va_up (A3 33) t (nI h + stv 1 M)) else A3) ∧ n' = n ∧ tx' = tx) (rm := ({ frames := 0, cells := 0, slots := 0, locals := 0 } : Room)) (decAt dd_MD_isEven 129 rfl) k_MD_61 (CW.mono (c_MD_comes l hE (t := t) (sz := cd.length) ⟨hn1, hn2, hn3, hn4, hn5, hn6, hn7⟩ hs hsz (by have := nx1_lt ht; omega)) fun r ρ' g' A' n' tx' h => by obtain ⟨b, h1, h2⟩ := h; exact ⟨_, h1, b, rfl, h2⟩) rfl rfl rfl rfl (Nat.le_of_ble_eq_true rfl) (by decide) rfl rfl (by decide) (fun v1 ρ1 g1 A9 n1 tx1 hv => ?_)
                      obtain ⟨b9, rfl, hb9, rfl, rfl, rfl, rfl, rfl⟩ := hv
                      have hr2 : Reach cd t ((h : Int) + gI M) := hreach.step ⟨M, k, hi0, Or.inr ⟨ht, by rw [if_neg (fun z => c202 (by rw [z]; rfl))]; omega⟩⟩
                      have hok := comes_ok (b := b9) (hgt_toInt hh60 hN3) (by have := take_give M hN3; omega) hr2 hEA hb9
                      refine v_if_eq G 224 (decAt dd_MD_isEven 130 rfl) (by decide) (fun c217 => ?_) (fun c217 => ?_)
                      · have hb9f : b9 = false := by cases b9 with | true => exact absurd c217 (by decide) | false => rfl
                        subst hb9f
                        refine v_iconst G 0 (decAt dd_MD_isEven 133 rfl) (by decide) ?_
                        refine v_istore_1 G (decAt dd_MD_isEven 134 rfl) (by decide) rfl ?_
                        exact J226 false A3 hA3 hle hEA (fun q => (by cases q)) (fun _ => hok.2 rfl)
                      · have hb9t : b9 = true := eq_true_of_ne_false (fun z => c217 (bI_f z))
                        subst hb9t
                        refine v_iconst G 1 (decAt dd_MD_isEven 131 rfl) (by decide) ?_
                        refine v_goto G 225 (decAt dd_MD_isEven 132 rfl) (by decide) ?_
                        refine v_istore_1 G (decAt dd_MD_isEven 134 rfl) (by decide) rfl ?_
                        obtain ⟨o1, o2, o3, o4⟩ := hok.1 rfl
                        refine J226 true (va_up A3 33 (va_up (A3 33) t (nI h + stv 1 M))) (fun q hq => by rw [va_up_ne _ _ hq]; exact hA3 q hq) (hle.trans o3) o4 (fun _ => ⟨h, M, k, hi0, ((hle.trans o3) i (by rw [hh]; exact nI_m1 (by omega))).trans hh, hh60, htk, fun t2 h' hw => ?_⟩) (fun q => (by cases q))
                        obtain ⟨n', k', q1, q2⟩ := hw
                        cases hi0.symm.trans q1
                        rcases q2 with ⟨q2, rfl⟩ | ⟨q2, rfl⟩
                        · obtain ⟨r1, h2, r2, r3, r4⟩ := hw0 t2 q2
                          exact ⟨r1, h2, r2, r3, (o3 t2 (by rw [r4]; exact nI_m1 (by omega))).trans r4⟩
                        · cases ht.symm.trans q2
                          refine ⟨o1, ?_⟩
                          obtain ⟨h2, s1, s2, s3⟩ := o2
                          exact ⟨h2, by rw [← s1]; rw [if_neg (fun z => c202 (by rw [z]; rfl))]; omega, s2, s3⟩
                    · skip
                      refine v_iload G (decAt dd_MD_isEven 124 rfl) rfl ?_
                      refine v_iconst G 1 (decAt dd_MD_isEven 125 rfl) (by decide) ?_
                      refine v_isub G (decAt dd_MD_isEven 126 rfl) ?_
                      refine v_goto G 214 (decAt dd_MD_isEven 127 rfl) (by decide) ?_
                      refine v_callVi0 G (As := [.int (nI t), .int ((nI h + stv 1 M) - 1)]) (P := fun v ρ' g' A' n' tx' => ∃ b : Bool, v = bI b ∧ (b = true ↔ (t < cd.length ∧ ((nI h + stv 1 M) - 1) ≤ 60 ∧ (A3 33 t = -1 ∨ A3 33 t = ((nI h + stv 1 M) - 1)))) ∧ ρ' = ρ ∧ g' = g ∧ A' = (if b then va_up A3 33 (va_up (A3 33) t ((nI h + stv 1 M) - 1)) else A3) ∧ n' = n ∧ tx' = tx) (rm := ({ frames := 0, cells := 0, slots := 0, locals := 0 } : Room)) (decAt dd_MD_isEven 129 rfl) k_MD_61 (CW.mono (c_MD_comes l hE (t := t) (sz := cd.length) ⟨hn1, hn2, hn3, hn4, hn5, hn6, hn7⟩ hs hsz (by have := nx1_lt ht; omega)) fun r ρ' g' A' n' tx' h => by obtain ⟨b, h1, h2⟩ := h; exact ⟨_, h1, b, rfl, h2⟩) rfl rfl rfl rfl (Nat.le_of_ble_eq_true rfl) (by decide) rfl rfl (by decide) (fun v1 ρ1 g1 A9 n1 tx1 hv => ?_)
                      obtain ⟨b9, rfl, hb9, rfl, rfl, rfl, rfl, rfl⟩ := hv
                      have hr2 : Reach cd t ((h : Int) + gI M - 1) := hreach.step ⟨M, k, hi0, Or.inr ⟨ht, by rw [if_pos ((nI_eq (a := M) (b := 18) (by omega) (by omega)).mp c202)]⟩⟩
                      have hok := comes_ok (b := b9) (hgt1_toInt hh60 hN3) (by have := take_give M hN3; have := this.2 ((nI_eq (a := M) (b := 18) (by omega) (by omega)).mp c202); omega) hr2 hEA hb9
                      refine v_if_eq G 224 (decAt dd_MD_isEven 130 rfl) (by decide) (fun c217 => ?_) (fun c217 => ?_)
                      · have hb9f : b9 = false := by cases b9 with | true => exact absurd c217 (by decide) | false => rfl
                        subst hb9f
                        refine v_iconst G 0 (decAt dd_MD_isEven 133 rfl) (by decide) ?_
                        refine v_istore_1 G (decAt dd_MD_isEven 134 rfl) (by decide) rfl ?_
                        exact J226 false A3 hA3 hle hEA (fun q => (by cases q)) (fun _ => hok.2 rfl)
                      · have hb9t : b9 = true := eq_true_of_ne_false (fun z => c217 (bI_f z))
                        subst hb9t
                        refine v_iconst G 1 (decAt dd_MD_isEven 131 rfl) (by decide) ?_
                        refine v_goto G 225 (decAt dd_MD_isEven 132 rfl) (by decide) ?_
                        refine v_istore_1 G (decAt dd_MD_isEven 134 rfl) (by decide) rfl ?_
                        obtain ⟨o1, o2, o3, o4⟩ := hok.1 rfl
                        refine J226 true (va_up A3 33 (va_up (A3 33) t ((nI h + stv 1 M) - 1))) (fun q hq => by rw [va_up_ne _ _ hq]; exact hA3 q hq) (hle.trans o3) o4 (fun _ => ⟨h, M, k, hi0, ((hle.trans o3) i (by rw [hh]; exact nI_m1 (by omega))).trans hh, hh60, htk, fun t2 h' hw => ?_⟩) (fun q => (by cases q))
                        obtain ⟨n', k', q1, q2⟩ := hw
                        cases hi0.symm.trans q1
                        rcases q2 with ⟨q2, rfl⟩ | ⟨q2, rfl⟩
                        · obtain ⟨r1, h2, r2, r3, r4⟩ := hw0 t2 q2
                          exact ⟨r1, h2, r2, r3, (o3 t2 (by rw [r4]; exact nI_m1 (by omega))).trans r4⟩
                        · cases ht.symm.trans q2
                          refine ⟨o1, ?_⟩
                          obtain ⟨h2, s1, s2, s3⟩ := o2
                          exact ⟨h2, by rw [← s1]; rw [if_pos ((nI_eq (a := M) (b := 18) (by omega) (by omega)).mp c202)], s2, s3⟩
              have J138 : ∀ (b : Bool), (b = true ↔ tI M ≤ h) → V p l e ({ frames := 2, cells := 0, slots := 0, locals := 46 } : Room) s m args below meth c 5 (Sy E DM AM s.heap ρ g (va_up A1 34 (va_up (A1 34) i 1)) n tx) 0 0 (MQ below (QW E DM AM (fun r ρ' g' A' n' tx' => ∃ b : Bool, r = some (.int (bI b)) ∧ (b = true → HtsOK cd (A' 33)) ∧ (b = false → noTyp cd) ∧ ρ' = ρ ∧ g' = g ∧ n' = n ∧ tx' = tx ∧ ∀ i, i ≠ 33 → i ≠ 34 → A' i = A i)) args s 0 0 E.F) 138 [some (.ref (E.o 6)), some (.int (bI b)), some (.int 1), some (.int (nI i)), some (.int (nI h + stv 1 M))] [] := by
                intro b hb
                have hC2 : CodeIs cd ((va_up A1 34 (va_up (A1 34) i 1)) 29) ((va_up A1 34 (va_up (A1 34) i 1)) 30) := hCA
                refine v_iload_n G (decAt dd_MD_isEven 85 rfl) rfl ?_
                refine v_if_eq G 171 (decAt dd_MD_isEven 86 rfl) (by decide) (fun c139 => ?_) (fun c139 => ?_)
                · skip
                  refine v_iconst G 0 (decAt dd_MD_isEven 103 rfl) (by decide) ?_
                  refine v_istore_1 G (decAt dd_MD_isEven 104 rfl) (by decide) rfl ?_
                  have hbf1 : b = false := by cases b with | true => exact absurd c139 (by decide) | false => rfl
                  exact J173 false _ (fun _ _ => rfl) (HLe.rf _) hI.2.1 (fun q => (by cases q)) (fun _ => noTyp_take hreach hi0 (fun z => by rw [hb.mpr z] at hbf1; cases hbf1))
                · skip
                  have hbt1 : b = true := eq_true_of_ne_false (fun z => c139 (bI_f z))
                  have htk := hb.mp hbt1
                  refine v_aload_n G (decAt dd_MD_isEven 87 rfl) rfl ?_
                  refine v_iload_n G (decAt dd_MD_isEven 88 rfl) rfl ?_
                  refine v_iconst G 0 (decAt dd_MD_isEven 89 rfl) (by decide) ?_
                  refine v_callVis G (As := [.int (nI i), .int 0]) (decAt dd_MD_isEven 90 rfl) k_MD_57 (c_MD_way l hE (sz := cd.length) ⟨hn1, hn2, hn3, hn4, hn5, hn6, hn7⟩ hs hsz hil (h18 (va_up A1 34 (va_up (A1 34) i 1)) hC2)) rfl rfl rfl rfl (Nat.le_of_ble_eq_true rfl) (by decide) rfl rfl (by decide) ?_
                  refine v_ri (y := oI (nx0 cd i)) (wayI_0 hC2 hi0) ?_
                  refine v_iconst G (-1) (decAt dd_MD_isEven 91 rfl) (by decide) ?_
                  refine v_icmp_eq G 167 (decAt dd_MD_isEven 92 rfl) (by decide) (fun c149 => ?_) (fun c149 => ?_)
                  · skip
                    refine v_iconst G 1 (decAt dd_MD_isEven 101 rfl) (by decide) ?_
                    refine v_goto G 172 (decAt dd_MD_isEven 102 rfl) (by decide) ?_
                    refine v_istore_1 G (decAt dd_MD_isEven 104 rfl) (by decide) rfl ?_
                    have hx0 : nx0 cd i = none := by
                      cases hq : nx0 cd i with
                      | none => rfl
                      | some t => rw [hq] at c149; exact absurd c149 (nI_m1 (by have := nx0_le hq; omega))
                    exact J173 true _ (fun _ _ => rfl) (HLe.rf _) hI.2.1 (fun _ => ⟨htk, fun t ht => by rw [hx0] at ht; cases ht⟩) (fun q => (by cases q))
                  · skip
                    obtain ⟨t, ht⟩ : ∃ t, nx0 cd i = some t := by
                      cases hq : nx0 cd i with
                      | none => rw [hq] at c149; exact absurd rfl c149
                      | some t => exact ⟨t, rfl⟩
                    refine v_aload_n G (decAt dd_MD_isEven 93 rfl) rfl ?_
                    refine v_aload_n G (decAt dd_MD_isEven 94 rfl) rfl ?_
                    refine v_iload_n G (decAt dd_MD_isEven 95 rfl) rfl ?_
                    refine v_iconst G 0 (decAt dd_MD_isEven 96 rfl) (by decide) ?_
                    refine v_callVis G (As := [.int (nI i), .int 0]) (decAt dd_MD_isEven 97 rfl) k_MD_57 (c_MD_way l hE (sz := cd.length) ⟨hn1, hn2, hn3, hn4, hn5, hn6, hn7⟩ hs hsz hil (h18 (va_up A1 34 (va_up (A1 34) i 1)) hC2)) rfl rfl rfl rfl (Nat.le_of_ble_eq_true rfl) (by decide) rfl rfl (by decide) ?_
                    refine v_ri (y := oI (nx0 cd i)) (wayI_0 hC2 hi0) ?_
                    rw [ht]
                    refine v_iload G (decAt dd_MD_isEven 98 rfl) rfl ?_
                    refine v_callVi0 G (As := [.int (nI t), .int (nI h + stv 1 M)]) (P := fun v ρ' g' A' n' tx' => ∃ b : Bool, v = bI b ∧ (b = true ↔ (t < cd.length ∧ (nI h + stv 1 M) ≤ 60 ∧ ((va_up A1 34 (va_up (A1 34) i 1)) 33 t = -1 ∨ (va_up A1 34 (va_up (A1 34) i 1)) 33 t = (nI h + stv 1 M)))) ∧ ρ' = ρ ∧ g' = g ∧ A' = (if b then va_up (va_up A1 34 (va_up (A1 34) i 1)) 33 (va_up ((va_up A1 34 (va_up (A1 34) i 1)) 33) t (nI h + stv 1 M)) else (va_up A1 34 (va_up (A1 34) i 1))) ∧ n' = n ∧ tx' = tx) (rm := ({ frames := 0, cells := 0, slots := 0, locals := 0 } : Room)) (decAt dd_MD_isEven 99 rfl) k_MD_61 (CW.mono (c_MD_comes l hE (t := t) (sz := cd.length) ⟨hn1, hn2, hn3, hn4, hn5, hn6, hn7⟩ hs hsz (by have := nx0_le ht; omega)) fun r ρ' g' A' n' tx' h => by obtain ⟨b, h1, h2⟩ := h; exact ⟨_, h1, b, rfl, h2⟩) rfl rfl rfl rfl (Nat.le_of_ble_eq_true rfl) (by decide) rfl rfl (by decide) (fun v1 ρ1 g1 A9 n1 tx1 hv => ?_)
                    obtain ⟨b9, rfl, hb9, rfl, rfl, rfl, rfl, rfl⟩ := hv
                    have hr2 : Reach cd t ((h : Int) + gI M) := hreach.step ⟨M, k, hi0, Or.inl ⟨ht, rfl⟩⟩
                    have hok := comes_ok (b := b9) (hgt_toInt hh60 hN3) (by have := take_give M hN3; omega) hr2 hI.2.1 hb9
                    refine v_if_eq G 171 (decAt dd_MD_isEven 100 rfl) (by decide) (fun c164 => ?_) (fun c164 => ?_)
                    · have hb9f : b9 = false := by cases b9 with | true => exact absurd c164 (by decide) | false => rfl
                      subst hb9f
                      refine v_iconst G 0 (decAt dd_MD_isEven 103 rfl) (by decide) ?_
                      refine v_istore_1 G (decAt dd_MD_isEven 104 rfl) (by decide) rfl ?_
                      exact J173 false _ (fun _ _ => rfl) (HLe.rf _) hI.2.1 (fun q => (by cases q)) (fun _ => hok.2 rfl)
                    · have hb9t : b9 = true := eq_true_of_ne_false (fun z => c164 (bI_f z))
                      subst hb9t
                      refine v_iconst G 1 (decAt dd_MD_isEven 101 rfl) (by decide) ?_
                      refine v_goto G 172 (decAt dd_MD_isEven 102 rfl) (by decide) ?_
                      refine v_istore_1 G (decAt dd_MD_isEven 104 rfl) (by decide) rfl ?_
                      obtain ⟨o1, o2, o3, o4⟩ := hok.1 rfl
                      exact J173 true _ (fun q hq => va_up_ne _ _ hq) o3 o4 (fun _ => ⟨htk, fun t2 ht2 => by cases ht.symm.trans ht2; exact ⟨o1, o2⟩⟩) (fun q => (by cases q))
              refine v_aload_n G (decAt dd_MD_isEven 53 rfl) rfl ?_
              refine v_geta G (decAt dd_MD_isEven 54 rfl) f_MD_25 ?_
              refine v_iload_n G (decAt dd_MD_isEven 55 rfl) rfl ?_
              refine v_iconst G 1 (decAt dd_MD_isEven 56 rfl) (by decide) ?_
              refine v_zast G 34 _ (decAt dd_MD_isEven 57 rfl) (by decide) rfl (by first | with_reducible rfl | with_reducible exact nI_1 _ | with_reducible exact nI_add _ _ | assumption) (by omega) rfl ?_
              refine v_iconst G 1 (decAt dd_MD_isEven 58 rfl) (by decide) ?_
              refine v_istore_2 G (decAt dd_MD_isEven 59 rfl) (by decide) rfl ?_
              refine v_aload_n G (decAt dd_MD_isEven 60 rfl) rfl ?_
              refine v_geta G (decAt dd_MD_isEven 61 rfl) f_MD_22 ?_
              refine v_iload_n G (decAt dd_MD_isEven 62 rfl) rfl ?_
              refine v_iald G 33 _ (decAt dd_MD_isEven 63 rfl) (by decide) rfl (by first | with_reducible rfl | with_reducible exact nI_1 _ | with_reducible exact nI_add _ _ | assumption) (by omega) ?_
              refine v_ri (y := nI h) hh ?_
              refine v_aload_n G (decAt dd_MD_isEven 64 rfl) rfl ?_
              refine v_geta G (decAt dd_MD_isEven 65 rfl) f_MD_7 ?_
              refine v_iload_n G (decAt dd_MD_isEven 66 rfl) rfl ?_
              refine v_iald G 29 _ (decAt dd_MD_isEven 67 rfl) (by decide) rfl (by first | with_reducible rfl | with_reducible exact nI_1 _ | with_reducible exact nI_add _ _ | assumption) (by omega) ?_
              refine v_ri (y := nI M) hN1 ?_
              refine p_callSi G (XB_Sy G) (As := [.int (nI M)]) (decAt dd_MD_isEven 68 rfl) k_MD_51 (c_MD_gives l hE (k := M) hN3) rfl rfl (Nat.le_of_ble_eq_true rfl) (by decide) rfl rfl (by decide) ?_
              refine v_iadd G (decAt dd_MD_isEven 69 rfl) ?_
              refine v_istore_4 G (decAt dd_MD_isEven 70 rfl) (by decide) rfl ?_
              refine v_aload_n G (decAt dd_MD_isEven 71 rfl) rfl ?_
              refine v_geta G (decAt dd_MD_isEven 72 rfl) f_MD_22 ?_
              refine v_iload_n G (decAt dd_MD_isEven 73 rfl) rfl ?_
              refine v_iald G 33 _ (decAt dd_MD_isEven 74 rfl) (by decide) rfl (by first | with_reducible rfl | with_reducible exact nI_1 _ | with_reducible exact nI_add _ _ | assumption) (by omega) ?_
              refine v_ri (y := nI h) hh ?_
              refine v_aload_n G (decAt dd_MD_isEven 75 rfl) rfl ?_
              refine v_geta G (decAt dd_MD_isEven 76 rfl) f_MD_7 ?_
              refine v_iload_n G (decAt dd_MD_isEven 77 rfl) rfl ?_
              refine v_iald G 29 _ (decAt dd_MD_isEven 78 rfl) (by decide) rfl (by first | with_reducible rfl | with_reducible exact nI_1 _ | with_reducible exact nI_add _ _ | assumption) (by omega) ?_
              refine v_ri (y := nI M) hN1 ?_
              refine p_callSi G (XB_Sy G) (As := [.int (nI M)]) (decAt dd_MD_isEven 79 rfl) k_MD_54 (c_MD_takes l hE (k := M) hN3) rfl rfl (Nat.le_of_ble_eq_true rfl) (by decide) rfl rfl (by decide) ?_
              refine v_icmp_lt G 136 (decAt dd_MD_isEven 80 rfl) (by decide) (fun c129 => ?_) (fun c129 => ?_)
              · skip
                refine v_iconst G 0 (decAt dd_MD_isEven 83 rfl) (by decide) ?_
                refine v_istore_1 G (decAt dd_MD_isEven 84 rfl) (by decide) rfl ?_
                exact J138 false ⟨fun q => (by cases q), fun z => absurd z ((take_lt hh60).mp c129)⟩
              · skip
                refine v_iconst G 1 (decAt dd_MD_isEven 81 rfl) (by decide) ?_
                refine v_goto G 137 (decAt dd_MD_isEven 82 rfl) (by decide) ?_
                refine v_istore_1 G (decAt dd_MD_isEven 84 rfl) (by decide) rfl ?_
                exact J138 true ⟨fun _ => Decidable.not_not.mp (fun z => c129 ((take_lt hh60).mpr z)), fun _ => rfl⟩
            refine v_iload_n G (decAt dd_MD_isEven 35 rfl) rfl ?_
            refine v_aload_n G (decAt dd_MD_isEven 36 rfl) rfl ?_
            refine v_geti G (decAt dd_MD_isEven 37 rfl) f_MD_36 ?_
            refine v_ri (y := (nI cd.length)) hs ?_
            refine v_icmp_ge G 232 (decAt dd_MD_isEven 38 rfl) (by decide) (fun c58 => ?_) (fun c58 => ?_)
            · skip
              exact absurd c58 (nI_ge (by omega) (by omega))
            · skip
              refine v_iload_n G (decAt dd_MD_isEven 39 rfl) rfl ?_
              refine v_if_eq G 232 (decAt dd_MD_isEven 40 rfl) (by decide) (fun c62 => ?_) (fun c62 => ?_)
              · skip
                refine v_goto G 41 (decAt dd_MD_isEven 137 rfl) (by decide) ?_
                have hgf : good = false := by cases good with | true => exact absurd c62 (by decide) | false => rfl
                exact ih41 A1 good more _ _ hfr hI (fun _ q => by rw [hgf] at q; cases q) (fun q => by have := hc1 q; omega)
              · skip
                have hgt : good = true := eq_true_of_ne_false (fun z => c62 (bI_f z))
                refine v_aload_n G (decAt dd_MD_isEven 41 rfl) rfl ?_
                refine v_geta G (decAt dd_MD_isEven 42 rfl) f_MD_22 ?_
                refine v_iload_n G (decAt dd_MD_isEven 43 rfl) rfl ?_
                refine v_iald G 33 _ (decAt dd_MD_isEven 44 rfl) (by decide) rfl (by first | with_reducible rfl | with_reducible exact nI_1 _ | with_reducible exact nI_add _ _ | assumption) (by omega) ?_
                refine v_iconst G (-1) (decAt dd_MD_isEven 45 rfl) (by decide) ?_
                refine v_icmp_eq G 226 (decAt dd_MD_isEven 46 rfl) (by decide) (fun c72 => ?_) (fun c72 => ?_)
                · skip
                  refine v_iinc_3 G (nI (i + 1)) (decAt dd_MD_isEven 135 rfl) (nI_1 i) (by decide) rfl ?_
                  refine v_goto G 53 (decAt dd_MD_isEven 136 rfl) (by decide) ?_
                  exact ih53 (i + 1) A1 good more _ (by omega) hfr hI (fun q => lt_s (hM q) (by first | exact Or.inl c72 | exact Or.inr c81)) hc1 hc2
                · skip
                  refine v_aload_n G (decAt dd_MD_isEven 47 rfl) rfl ?_
                  refine v_geta G (decAt dd_MD_isEven 48 rfl) f_MD_25 ?_
                  refine v_iload_n G (decAt dd_MD_isEven 49 rfl) rfl ?_
                  refine v_zald G 34 _ (decAt dd_MD_isEven 50 rfl) (by decide) rfl (by first | with_reducible rfl | with_reducible exact nI_1 _ | with_reducible exact nI_add _ _ | assumption) (by omega) ?_
                  refine v_if_eq G 87 (decAt dd_MD_isEven 51 rfl) (by decide) (fun c81 => ?_) (fun c81 => ?_)
                  · skip
                    obtain ⟨h, h1, h2, h3⟩ := hI.2.1 i hil c72
                    exact JP hgt c81 h h1 h2 h3
                  · skip
                    refine v_goto G 226 (decAt dd_MD_isEven 52 rfl) (by decide) ?_
                    refine v_iinc_3 G (nI (i + 1)) (decAt dd_MD_isEven 135 rfl) (nI_1 i) (by decide) rfl ?_
                    refine v_goto G 53 (decAt dd_MD_isEven 136 rfl) (by decide) ?_
                    exact ih53 (i + 1) A1 good more _ (by omega) hfr hI (fun q => lt_s (hM q) (by first | exact Or.inl c72 | exact Or.inr c81)) hc1 hc2
        refine v_iload_n G (decAt dd_MD_isEven 27 rfl) rfl ?_
        refine v_if_eq G 235 (decAt dd_MD_isEven 28 rfl) (by decide) (fun c42 => ?_) (fun c42 => ?_)
        · skip
          exact absurd c42 (by decide)
        · skip
          refine v_iload_n G (decAt dd_MD_isEven 29 rfl) rfl ?_
          refine v_if_eq G 235 (decAt dd_MD_isEven 30 rfl) (by decide) (fun c46 => ?_) (fun c46 => ?_)
          · skip
            have hgf : good = false := by cases good with | true => exact absurd c46 (by decide) | false => rfl
            subst hgf
            refine v_iload_n G (decAt dd_MD_isEven 138 rfl) rfl ?_
            exact v_zret G (decAt dd_MD_isEven 139 rfl) rfl (by unfold bI; split <;> rfl) ⟨false, rfl, fun hg => (by cases hg), hI.2.2.2, rfl, rfl, rfl, rfl, hfr⟩
          · skip
            refine v_iconst G 0 (decAt dd_MD_isEven 31 rfl) (by decide) ?_
            refine v_istore_2 G (decAt dd_MD_isEven 32 rfl) (by decide) rfl ?_
            refine v_iconst G 0 (decAt dd_MD_isEven 33 rfl) (by decide) ?_
            refine v_istore_3 G (decAt dd_MD_isEven 34 rfl) (by decide) rfl ?_
            exact J53 cd.length 0 A1 good false _ (by omega) hfr hI (fun _ j hj => absurd hj (by omega)) (fun q => (by cases q)) (by omega)
  have J2 : ∀ (d i : Nat) (A1 : Nat → Nat → Int32), i + d = cd.length → (∀ i, i ≠ 33 → i ≠ 34 → A1 i = A i) → (∀ j, j < i → A1 33 j = -1 ∧ A1 34 j = 0) → V p l e ({ frames := 2, cells := 0, slots := 0, locals := 46 } : Room) s m args below meth c 5 (Sy E DM AM s.heap ρ g A1 n tx) 0 0 (MQ below (QW E DM AM (fun r ρ' g' A' n' tx' => ∃ b : Bool, r = some (.int (bI b)) ∧ (b = true → HtsOK cd (A' 33)) ∧ (b = false → noTyp cd) ∧ ρ' = ρ ∧ g' = g ∧ n' = n ∧ tx' = tx ∧ ∀ i, i ≠ 33 → i ≠ 34 → A' i = A i)) args s 0 0 E.F) 2 [some (.ref (E.o 6)), some (.int (nI i)), none, none, none] [] := by
    intro d
    induction d with
    | zero =>
      intro i A1 hi hfr hz
      have hi : i = cd.length := hi
      refine v_iload_n G (decAt dd_MD_isEven 2 rfl) rfl ?_
      refine v_aload_n G (decAt dd_MD_isEven 3 rfl) rfl ?_
      refine v_geti G (decAt dd_MD_isEven 4 rfl) f_MD_36 ?_
      refine v_ri (y := (nI cd.length)) hs ?_
      refine v_icmp_ge G 30 (decAt dd_MD_isEven 5 rfl) (by decide) (fun c7 => ?_) (fun c7 => ?_)
      · skip
        refine v_aload_n G (decAt dd_MD_isEven 18 rfl) rfl ?_
        refine v_geta G (decAt dd_MD_isEven 19 rfl) f_MD_22 ?_
        refine v_iconst G 0 (decAt dd_MD_isEven 20 rfl) (by decide) ?_
        refine v_iconst G 0 (decAt dd_MD_isEven 21 rfl) (by decide) ?_
        refine v_iast G 33 0 (decAt dd_MD_isEven 22 rfl) (by decide) rfl rfl (by omega) ?_
        refine v_iconst G 1 (decAt dd_MD_isEven 23 rfl) (by decide) ?_
        refine v_istore_1 G (decAt dd_MD_isEven 24 rfl) (by decide) rfl ?_
        refine v_iconst G 1 (decAt dd_MD_isEven 25 rfl) (by decide) ?_
        refine v_istore_2 G (decAt dd_MD_isEven 26 rfl) (by decide) rfl ?_
        exact J41 (cd.length + 1) _ true true _ _ (fun q h1 h2 => by rw [va_up_ne _ _ h1]; exact hfr q h1 h2)
          ⟨rfl, fun j hj hne => (by
            by_cases e : j = 0
            · subst e; exact ⟨0, by omega, rfl, Reach.zero cd⟩
            · exact absurd ((va_up_ne _ _ e).trans (hz j (by omega)).1) hne), fun _ j hj hne => absurd (hz j (by omega)).2 hne, fun q => (by cases q)⟩
          (fun q => (by cases q)) (fun _ => by have := cnt_le ((va_up A1 33 (va_up (A1 33) 0 0)) 34) cd.length; omega)
      · skip
        exact absurd (nI_le (by omega) (by omega)) c7
    | succ d ih =>
      intro i A1 hi hfr hz
      refine v_iload_n G (decAt dd_MD_isEven 2 rfl) rfl ?_
      refine v_aload_n G (decAt dd_MD_isEven 3 rfl) rfl ?_
      refine v_geti G (decAt dd_MD_isEven 4 rfl) f_MD_36 ?_
      refine v_ri (y := (nI cd.length)) hs ?_
      refine v_icmp_ge G 30 (decAt dd_MD_isEven 5 rfl) (by decide) (fun c7 => ?_) (fun c7 => ?_)
      · skip
        exact absurd c7 (nI_ge (by omega) (by omega))
      · skip
        refine v_aload_n G (decAt dd_MD_isEven 6 rfl) rfl ?_
        refine v_geta G (decAt dd_MD_isEven 7 rfl) f_MD_22 ?_
        refine v_iload_n G (decAt dd_MD_isEven 8 rfl) rfl ?_
        refine v_iconst G (-1) (decAt dd_MD_isEven 9 rfl) (by decide) ?_
        refine v_iast G 33 _ (decAt dd_MD_isEven 10 rfl) (by decide) rfl (by first | with_reducible rfl | with_reducible exact nI_1 _ | with_reducible exact nI_add _ _ | assumption) (by omega) ?_
        refine v_aload_n G (decAt dd_MD_isEven 11 rfl) rfl ?_
        refine v_geta G (decAt dd_MD_isEven 12 rfl) f_MD_25 ?_
        refine v_iload_n G (decAt dd_MD_isEven 13 rfl) rfl ?_
        refine v_iconst G 0 (decAt dd_MD_isEven 14 rfl) (by decide) ?_
        refine v_zast G 34 _ (decAt dd_MD_isEven 15 rfl) (by decide) rfl (by first | with_reducible rfl | with_reducible exact nI_1 _ | with_reducible exact nI_add _ _ | assumption) (by omega) rfl ?_
        refine v_iinc_1 G (nI (i + 1)) (decAt dd_MD_isEven 16 rfl) (nI_1 i) (by decide) rfl ?_
        refine v_goto G 2 (decAt dd_MD_isEven 17 rfl) (by decide) ?_
        exact ih (i + 1) _ (by omega) (fun q h1 h2 => by rw [va_up_ne _ _ h2, va_up_ne _ _ h1]; exact hfr q h1 h2)
          (fun j hj => by
            by_cases e : j = i
            · subst e; exact ⟨va_up_self _ _ _, va_up_self _ _ _⟩
            · exact ⟨(va_up_ne _ _ e).trans (hz j (by omega)).1, (va_up_ne _ _ e).trans (hz j (by omega)).2⟩)
  refine v_iconst G 0 (decAt dd_MD_isEven 0 rfl) (by decide) ?_
  refine v_istore_1 G (decAt dd_MD_isEven 1 rfl) (by decide) rfl ?_
  exact J2 cd.length 0 A (by omega) (fun _ _ _ => rfl) (fun j hj => absurd hj (by omega))
