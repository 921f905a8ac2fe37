/-! the plain form: whether each circle has fuel -/
def op (cd : Cod) (i : Nat) : Nat := (cd.getD i (15, 0)).1
theorem op_at {cd : Cod} {i n : Nat} {k : Int32} (h : cd[i]? = some (n, k)) : op cd i = n := by
  unfold op
  rw [List.getD_eq_getElem?_getD, h]
  rfl
theorem op_out {cd : Cod} {i : Nat} (h : cd.length ≤ i) : op cd i = 15 := by
  unfold op
  rw [List.getD_eq_getElem?_getD, List.getElem?_eq_none h]
  rfl
def Rc (cd : Cod) (i : Nat) : Prop := ∃ h, Reach cd i h
def Nx (cd : Cod) (i t : Nat) : Prop := nx0 cd i = some t ∨ nx1 cd i = some t
/-- no circle without fuel -/
def Acy (cd : Cod) : Prop := ∃ rank : Nat → Nat, ∀ i, op cd i ≠ 15 → Rc cd i → ∀ t, Nx cd i t → op cd t ≠ 15 → rank t < rank i
theorem HtsOK.rc {cd : Cod} {H : Nat → Int32} (h : HtsOK cd H) (hc : 0 < cd.length) {i : Nat} : Rc cd i ↔ (i < cd.length ∧ H i ≠ -1) := by
  constructor
  · rintro ⟨h0, hr⟩
    obtain ⟨h2, -, q⟩ := (h.typ hc).reach hr
    by_cases z : i < cd.length ∧ H i ≠ -1
    · exact z
    · rw [if_neg z] at q; cases q
  · rintro ⟨h1, h2⟩
    obtain ⟨h3, -, -, q⟩ := h.2.1 i h1 h2
    exact ⟨_, q⟩
theorem HtsOK.nx {cd : Cod} {H : Nat → Int32} (h : HtsOK cd H) {i t : Nat} (hi : i < cd.length) (hne : H i ≠ -1) (hn : Nx cd i t) : t < cd.length ∧ H t ≠ -1 := by
  obtain ⟨h0, n, k, q1, q2, q3, q4, q5⟩ := h.2.2 i hi hne
  rcases hn with hn | hn
  · obtain ⟨r1, h2, -, r3, r4⟩ := q5 t _ ⟨n, k, q1, Or.inl ⟨hn, rfl⟩⟩
    exact ⟨r1, by rw [r4]; exact nI_m1 (by omega)⟩
  · obtain ⟨r1, h2, -, r3, r4⟩ := q5 t _ ⟨n, k, q1, Or.inr ⟨hn, rfl⟩⟩
    exact ⟨r1, by rw [r4]; exact nI_m1 (by omega)⟩
def SpI (cd : Cod) (H go : Nat → Int32) : Prop := (∀ j, j < cd.length → H j = -1 ∨ op cd j = 15 → go j ≠ 0) ∧ ∃ (rank : Nat → Nat) (K : Nat), ∀ j, j < cd.length → go j ≠ 0 → H j ≠ -1 → op cd j ≠ 15 → rank j < K ∧ ∀ t, Nx cd j t → op cd t ≠ 15 → go t ≠ 0 ∧ rank t < rank j
theorem SpI.up {cd : Cod} {H go : Nat → Int32} (h : SpI cd H go) (hH : HtsOK cd H) {i : Nat} (hi : i < cd.length) (h0 : go i = 0) (hw : ∀ t, Nx cd i t → go t ≠ 0) : SpI cd H (va_up go i 1) := by
  obtain ⟨h1, rank, K, h2⟩ := h
  have hne : H i ≠ -1 := fun z => h1 i hi (Or.inl z) h0
  refine ⟨fun j hj hc => ?_, va_up rank i K, K + 1, fun j hj hg hn ho => ?_⟩
  · by_cases e : j = i
    · subst e; rw [va_up_self]; decide
    · rw [va_up_ne _ _ e]; exact h1 j hj hc
  · by_cases e : j = i
    · subst e
      rw [va_up_self]
      refine ⟨by omega, fun t ht hto => ?_⟩
      have hgt := hw t ht
      obtain ⟨t1, t2⟩ := hH.nx hj hn ht
      have hti : t ≠ j := fun z => by rw [z] at hgt; exact hgt h0
      rw [va_up_ne _ _ hti, va_up_ne _ _ hti]
      exact ⟨hgt, (h2 t t1 hgt t2 hto).1⟩
    · rw [va_up_ne _ _ e] at hg ⊢
      obtain ⟨q1, q2⟩ := h2 j hj hg hn ho
      refine ⟨by omega, fun t ht hto => ?_⟩
      obtain ⟨q3, q4⟩ := q2 t ht hto
      have hti : t ≠ i := fun z => by rw [z] at q3; exact q3 h0
      rw [va_up_ne _ _ hti, va_up_ne _ _ hti]
      exact ⟨q3, q4⟩
theorem SpI.yes {cd : Cod} {H go : Nat → Int32} (h : SpI cd H go) (hH : HtsOK cd H) (hc : 0 < cd.length) (hall : ∀ j, j < cd.length → go j ≠ 0) : Acy cd := by
  obtain ⟨h1, rank, K, h2⟩ := h
  refine ⟨rank, fun i ho hr t ht hto => ?_⟩
  obtain ⟨r1, r2⟩ := (hH.rc hc).mp hr
  exact ((h2 i r1 (hall i r1) r2 ho).2 t ht hto).2
theorem SpI.no {cd : Cod} {H go : Nat → Int32} (h : SpI cd H go) (hH : HtsOK cd H) (hc : 0 < cd.length) (hex : ∃ j, j < cd.length ∧ go j = 0) (hb : ∀ j, j < cd.length → go j ≠ 0 ∨ ∃ t, Nx cd j t ∧ go t = 0) : ¬ Acy cd := by
  rintro ⟨rank, hr⟩
  obtain ⟨h1, -⟩ := h
  have live : ∀ j, j < cd.length → go j = 0 → H j ≠ -1 ∧ op cd j ≠ 15 := fun j hj hg => ⟨fun z => h1 j hj (Or.inl z) hg, fun z => h1 j hj (Or.inr z) hg⟩
  have key : ∀ r j, j < cd.length → go j = 0 → rank j ≤ r → False := by
    intro r
    induction r with
    | zero =>
      intro j hj hg hle
      obtain ⟨t, ht, hgt⟩ := (hb j hj).resolve_left (fun z => z hg)
      obtain ⟨l1, l2⟩ := live j hj hg
      obtain ⟨t1, t2⟩ := hH.nx hj l1 ht
      have := hr j l2 ((hH.rc hc).mpr ⟨hj, l1⟩) t ht (live t t1 hgt).2
      omega
    | succ r ih =>
      intro j hj hg hle
      obtain ⟨t, ht, hgt⟩ := (hb j hj).resolve_left (fun z => z hg)
      obtain ⟨l1, l2⟩ := live j hj hg
      obtain ⟨t1, t2⟩ := hH.nx hj l1 ht
      have := hr j l2 ((hH.rc hc).mpr ⟨hj, l1⟩) t ht (live t t1 hgt).2
      exact ih t t1 hgt (by omega)
  obtain ⟨j, hj, hg⟩ := hex
  exact key _ j hj hg (Nat.le_refl _)
theorem cnt_same {f : Nat → Int32} {i : Nat} {v : Int32} : ∀ m, m ≤ i → cnt (va_up f i v) m = cnt f m
  | 0, _ => rfl
  | m + 1, h => by unfold cnt; rw [cnt_same m (by omega), va_up_ne _ _ (by omega)]
theorem cnt_0 {f : Nat → Int32} : ∀ n, cnt f n = 0 → ∀ j, j < n → f j ≠ 0
  | 0, _, j, hj => absurd hj (by omega)
  | n + 1, h, j, hj => by
    unfold cnt at h
    have h1 : cnt f n = 0 := by omega
    by_cases e : j = n
    · subst e
      intro z
      rw [if_pos z] at h
      omega
    · exact cnt_0 n h1 j (by omega)
theorem cnt_pos {f : Nat → Int32} : ∀ n, cnt f n ≠ 0 → ∃ j, j < n ∧ f j = 0
  | 0, h => absurd rfl h
  | n + 1, h => by
    by_cases z : f n = 0
    · exact ⟨n, by omega, z⟩
    · unfold cnt at h
      rw [if_neg z] at h
      obtain ⟨j, h1, h2⟩ := cnt_pos n (by omega)
      exact ⟨j, by omega, h2⟩

set_option maxHeartbeats 4000000 in
theorem c_MD_isSpent (l : Launch) {E : Bs} (hE : Hb E) {ρ : Nat → Nat} {g A : Nat → Nat → Int32} {n : Nat → Nat} {tx : Value} {cd : Cod} (hn : MN n) (hs : g 6 1 = nI cd.length) (hsz : cd.length ≤ 400) (hpos : 0 < cd.length) (hC : CodeIs cd (A 29) (A 30)) (hL : LabC cd) (hH : HtsOK cd (A 33)) : CW l E DM AM y_MD_isSpent b_MD_isSpent 6 (some .boolean) ({ frames := 2, cells := 0, slots := 0, locals := 46 } : Room) [.ref (E.o 6)] ρ g A n tx (fun r ρ' g' A' n' tx' => ∃ b : Bool, r = some (.int (bI b)) ∧ (b = true ↔ Acy cd) ∧ ρ' = ρ ∧ g' = g ∧ n' = n ∧ tx' = tx ∧ ∀ i, i ≠ 34 → A' i = A i) := by
  obtain ⟨hn1, hn2, hn3, hn4, hn5, hn6, hn7⟩ := hn
  refine CW.start [some (.ref (E.o 6)), none, none, none, none, none] hE (by decide) (Nat.le_of_ble_eq_true rfl) rfl ?_
  intro p e s m args below meth c G
  have J69 : ∀ (μ : Nat) (A1 : Nat → Nat → Int32) (more : Bool) (x3 x4 x5 : Option Value), (∀ i, i ≠ 34 → A1 i = A i) → SpI cd (A 33) (A1 34) → (more = false → ∀ j, j < cd.length → A1 34 j ≠ 0 ∨ ∃ t, Nx cd j t ∧ A1 34 t = 0) → (more = true → cnt (A1 34) cd.length < μ) → V p l e ({ frames := 2, cells := 0, slots := 0, locals := 46 } : Room) s m args below meth c 6 (Sy E DM AM s.heap ρ g A1 n tx) 0 0 (MQ below (QW E DM AM (fun r ρ' g' A' n' tx' => ∃ b : Bool, r = some (.int (bI b)) ∧ (b = true ↔ Acy cd) ∧ ρ' = ρ ∧ g' = g ∧ n' = n ∧ tx' = tx ∧ ∀ i, i ≠ 34 → A' i = A i)) args s 0 0 E.F) 69 [some (.ref (E.o 6)), some (.int (nI (cnt (A1 34) cd.length))), some (.int (bI more)), x3, x4, x5] [] := by
    intro μ
    induction μ with
    | zero =>
      intro A1 more x3 x4 x5 hfr hI hM hc
      cases more with
      | true => exact absurd (hc rfl) (by omega)
      | false =>
        refine v_iload_n G (decAt dd_MD_isSpent 42 rfl) rfl ?_
        refine v_if_eq G 166 (decAt dd_MD_isSpent 43 rfl) (by decide) (fun c70 => ?_) (fun c70 => ?_)
        · skip
          refine v_iload_n G (decAt dd_MD_isSpent 95 rfl) rfl ?_
          refine v_if_ne G 174 (decAt dd_MD_isSpent 96 rfl) (by decide) (fun c167 => ?_) (fun c167 => ?_)
          · skip
            refine v_iconst G 0 (decAt dd_MD_isSpent 99 rfl) (by decide) ?_
            exact v_zret G (decAt dd_MD_isSpent 100 rfl) rfl rfl ⟨false, rfl, ⟨fun q => (by cases q), fun q => absurd q (hI.no hH hpos (cnt_pos _ (fun z => c167 (by rw [z]; rfl))) (hM rfl))⟩, rfl, rfl, rfl, rfl, hfr⟩
          · skip
            refine v_iconst G 1 (decAt dd_MD_isSpent 97 rfl) (by decide) ?_
            refine v_goto G 175 (decAt dd_MD_isSpent 98 rfl) (by decide) ?_
            exact v_zret G (decAt dd_MD_isSpent 100 rfl) rfl rfl ⟨true, rfl, ⟨fun _ => hI.yes hH hpos (cnt_0 _ ((nI_eq (a := cnt (A1 34) cd.length) (b := 0) (by have := cnt_le (A1 34) cd.length; omega) (by omega)).mp c167)), fun _ => rfl⟩, rfl, rfl, rfl, rfl, hfr⟩
        · skip
          exact absurd rfl c70
    | succ μ ih69 =>
      intro A1 more x3 x4 x5 hfr hI hM hc
      cases more with
      | false =>
        refine v_iload_n G (decAt dd_MD_isSpent 42 rfl) rfl ?_
        refine v_if_eq G 166 (decAt dd_MD_isSpent 43 rfl) (by decide) (fun c70 => ?_) (fun c70 => ?_)
        · skip
          refine v_iload_n G (decAt dd_MD_isSpent 95 rfl) rfl ?_
          refine v_if_ne G 174 (decAt dd_MD_isSpent 96 rfl) (by decide) (fun c167 => ?_) (fun c167 => ?_)
          · skip
            refine v_iconst G 0 (decAt dd_MD_isSpent 99 rfl) (by decide) ?_
            exact v_zret G (decAt dd_MD_isSpent 100 rfl) rfl rfl ⟨false, rfl, ⟨fun q => (by cases q), fun q => absurd q (hI.no hH hpos (cnt_pos _ (fun z => c167 (by rw [z]; rfl))) (hM rfl))⟩, rfl, rfl, rfl, rfl, hfr⟩
          · skip
            refine v_iconst G 1 (decAt dd_MD_isSpent 97 rfl) (by decide) ?_
            refine v_goto G 175 (decAt dd_MD_isSpent 98 rfl) (by decide) ?_
            exact v_zret G (decAt dd_MD_isSpent 100 rfl) rfl rfl ⟨true, rfl, ⟨fun _ => hI.yes hH hpos (cnt_0 _ ((nI_eq (a := cnt (A1 34) cd.length) (b := 0) (by have := cnt_le (A1 34) cd.length; omega) (by omega)).mp c167)), fun _ => rfl⟩, rfl, rfl, rfl, rfl, hfr⟩
        · skip
          exact absurd rfl c70
      | true =>
        have hK := hc rfl
        obtain ⟨K, hKe⟩ : ∃ K, cnt (A1 34) cd.length = K := ⟨_, rfl⟩
        rw [hKe] at hK
        have J77 : ∀ (d i : Nat) (A1 : Nat → Nat → Int32) (more : Bool) (x4 x5 : Option Value), i + d = cd.length → (∀ i, i ≠ 34 → A1 i = A i) → SpI cd (A 33) (A1 34) → (more = false → ∀ j, j < i → A1 34 j ≠ 0 ∨ ∃ t, Nx cd j t ∧ A1 34 t = 0) → (more = true → cnt (A1 34) cd.length < K) → cnt (A1 34) cd.length ≤ K → V p l e ({ frames := 2, cells := 0, slots := 0, locals := 46 } : Room) s m args below meth c 6 (Sy E DM AM s.heap ρ g A1 n tx) 0 0 (MQ below (QW E DM AM (fun r ρ' g' A' n' tx' => ∃ b : Bool, r = some (.int (bI b)) ∧ (b = true ↔ Acy cd) ∧ ρ' = ρ ∧ g' = g ∧ n' = n ∧ tx' = tx ∧ ∀ i, i ≠ 34 → A' i = A i)) args s 0 0 E.F) 77 [some (.ref (E.o 6)), some (.int (nI (cnt (A1 34) cd.length))), some (.int (bI more)), some (.int (nI i)), x4, x5] [] := by
          intro d
          induction d with
          | zero =>
            intro i A1 more x4 x5 hi hfr hI hM hc1 hc2
            have hi : i = cd.length := hi
            refine v_iload_n G (decAt dd_MD_isSpent 48 rfl) rfl ?_
            refine v_aload_n G (decAt dd_MD_isSpent 49 rfl) rfl ?_
            refine v_geti G (decAt dd_MD_isSpent 50 rfl) f_MD_36 ?_
            refine v_ri (y := (nI cd.length)) hs ?_
            refine v_icmp_ge G 163 (decAt dd_MD_isSpent 51 rfl) (by decide) (fun c82 => ?_) (fun c82 => ?_)
            · skip
              refine v_goto G 69 (decAt dd_MD_isSpent 94 rfl) (by decide) ?_
              exact ih69 A1 more _ _ _ hfr hI (fun q j hj => hM q j (by omega)) (fun q => by have := hc1 q; omega)
            · skip
              exact absurd (nI_le (by omega) (by omega)) c82
          | succ d ih77 =>
            intro i A1 more x4 x5 hi hfr hI hM hc1 hc2
            have hil : i < cd.length := by omega
            have hCA : CodeIs cd (A1 29) (A1 30) := by rw [hfr 29 (by decide), hfr 30 (by decide)]; exact hC
            obtain ⟨⟨M, k⟩, hi0⟩ : ∃ q, cd[i]? = some q := ⟨cd[i], List.getElem?_eq_getElem hil⟩
            obtain ⟨hN1, hN2, hN3⟩ := hCA i M k hi0
            have h18 : A1 29 i = 18 → i + 1 < 400 := fun z => by
              obtain ⟨k', hk'⟩ := (hL i M k hi0).2.2.2.2 ((nI_eq (a := M) (b := 18) (by omega) (by omega)).mp (hN1.symm.trans z))
              have := (List.getElem?_eq_some_iff.mp hk').1
              omega
            refine v_iload_n G (decAt dd_MD_isSpent 48 rfl) rfl ?_
            refine v_aload_n G (decAt dd_MD_isSpent 49 rfl) rfl ?_
            refine v_geti G (decAt dd_MD_isSpent 50 rfl) f_MD_36 ?_
            refine v_ri (y := (nI cd.length)) hs ?_
            refine v_icmp_ge G 163 (decAt dd_MD_isSpent 51 rfl) (by decide) (fun c82 => ?_) (fun c82 => ?_)
            · skip
              exact absurd c82 (nI_ge (by omega) (by omega))
            · skip
              refine v_aload_n G (decAt dd_MD_isSpent 52 rfl) rfl ?_
              refine v_geta G (decAt dd_MD_isSpent 53 rfl) f_MD_25 ?_
              refine v_iload_n G (decAt dd_MD_isSpent 54 rfl) rfl ?_
              refine v_zald G 34 _ (decAt dd_MD_isSpent 55 rfl) (by decide) rfl (by first | with_reducible rfl | with_reducible exact nI_1 _ | with_reducible exact nI_add _ _ | assumption) (by omega) ?_
              refine v_if_eq G 97 (decAt dd_MD_isSpent 56 rfl) (by decide) (fun c91 => ?_) (fun c91 => ?_)
              · skip
                have hne : A 33 i ≠ -1 := fun z => hI.1 i hil (Or.inl z) c91
                refine v_aload_n G (decAt dd_MD_isSpent 58 rfl) rfl ?_
                refine v_iload_n G (decAt dd_MD_isSpent 59 rfl) rfl ?_
                refine v_iconst G 0 (decAt dd_MD_isSpent 60 rfl) (by decide) ?_
                refine v_callVis G (As := [.int (nI i), .int 0]) (decAt dd_MD_isSpent 61 rfl) k_MD_57 (c_MD_way l hE (sz := cd.length) ⟨hn1, hn2, hn3, hn4, hn5, hn6, hn7⟩ hs hsz hil h18) rfl rfl rfl rfl (Nat.le_of_ble_eq_true rfl) (by decide) rfl rfl (by decide) ?_
                refine v_ri (y := oI (nx0 cd i)) (wayI_0 hCA hi0) ?_
                refine v_istore_4 G (decAt dd_MD_isSpent 62 rfl) (by decide) rfl ?_
                refine v_aload_n G (decAt dd_MD_isSpent 63 rfl) rfl ?_
                refine v_iload_n G (decAt dd_MD_isSpent 64 rfl) rfl ?_
                refine v_iconst G 1 (decAt dd_MD_isSpent 65 rfl) (by decide) ?_
                refine v_callVis G (As := [.int (nI i), .int 1]) (decAt dd_MD_isSpent 66 rfl) k_MD_57 (c_MD_way l hE (sz := cd.length) ⟨hn1, hn2, hn3, hn4, hn5, hn6, hn7⟩ hs hsz hil h18) rfl rfl rfl rfl (Nat.le_of_ble_eq_true rfl) (by decide) rfl rfl (by decide) ?_
                refine v_ri (y := oI (nx1 cd i)) (wayI_1 hCA hL hi0) ?_
                refine v_istore_5 G (decAt dd_MD_isSpent 67 rfl) (by decide) rfl ?_
                refine v_iload G (decAt dd_MD_isSpent 68 rfl) rfl ?_
                refine v_iconst G (-1) (decAt dd_MD_isSpent 69 rfl) (by decide) ?_
                refine v_icmp_eq G 129 (decAt dd_MD_isSpent 70 rfl) (by decide) (fun c116 => ?_) (fun c116 => ?_)
                · skip
                  refine v_iload G (decAt dd_MD_isSpent 76 rfl) rfl ?_
                  refine v_iconst G (-1) (decAt dd_MD_isSpent 77 rfl) (by decide) ?_
                  refine v_icmp_eq G 145 (decAt dd_MD_isSpent 78 rfl) (by decide) (fun c132 => ?_) (fun c132 => ?_)
                  · skip
                    refine v_aload_n G (decAt dd_MD_isSpent 84 rfl) rfl ?_
                    refine v_geta G (decAt dd_MD_isSpent 85 rfl) f_MD_25 ?_
                    refine v_iload_n G (decAt dd_MD_isSpent 86 rfl) rfl ?_
                    refine v_iconst G 1 (decAt dd_MD_isSpent 87 rfl) (by decide) ?_
                    refine v_zast G 34 _ (decAt dd_MD_isSpent 88 rfl) (by decide) rfl (by first | with_reducible rfl | with_reducible exact nI_1 _ | with_reducible exact nI_add _ _ | assumption) (by omega) rfl ?_
                    have hcn : cnt (va_up (A1 34) i 1) cd.length + 1 = cnt (A1 34) cd.length := cnt_up (by decide) hil c91
                    refine v_iinc_1 G (nI (cnt (va_up (A1 34) i 1) cd.length)) (decAt dd_MD_isSpent 89 rfl) (by rw [← hcn]; exact pk_m1 _) (by decide) rfl ?_
                    refine v_iconst G 1 (decAt dd_MD_isSpent 90 rfl) (by decide) ?_
                    refine v_istore_2 G (decAt dd_MD_isSpent 91 rfl) (by decide) rfl ?_
                    refine v_iinc_3 G (nI (i + 1)) (decAt dd_MD_isSpent 92 rfl) (nI_1 i) (by decide) rfl ?_
                    refine v_goto G 77 (decAt dd_MD_isSpent 93 rfl) (by decide) ?_
                    exact ih77 (i + 1) (va_up A1 34 (va_up (A1 34) i 1)) true _ _ (by omega) (fun q h1 => by rw [va_up_ne _ _ h1]; exact hfr q h1) (hI.up hH hil c91 (fun t ht => by
                      rcases ht with ht | ht
                      · first
                          | (rw [ht0] at ht; cases ht; exact c126)
                          | (rw [ht] at c116; exact absurd c116 (nI_m1 (by have := nx0_le ht; omega)))
                      · first
                          | (rw [ht1] at ht; cases ht; exact c142)
                          | (rw [ht] at c132; exact absurd c132 (nI_m1 (by have := nx1_lt ht; omega)))))
                      (fun q => (by cases q)) (fun _ => by show cnt (va_up (A1 34) i 1) cd.length < K; omega) (by show cnt (va_up (A1 34) i 1) cd.length ≤ K; omega)
                  · skip
                    obtain ⟨t1, ht1⟩ : ∃ t, nx1 cd i = some t := by
                      cases hq : nx1 cd i with
                      | none => rw [hq] at c132; exact absurd rfl c132
                      | some t => exact ⟨t, rfl⟩
                    have hl1 := (hH.nx hil hne (Or.inr ht1)).1
                    refine v_aload_n G (decAt dd_MD_isSpent 79 rfl) rfl ?_
                    refine v_geta G (decAt dd_MD_isSpent 80 rfl) f_MD_25 ?_
                    refine v_iload G (decAt dd_MD_isSpent 81 rfl) rfl ?_
                    refine v_zald G 34 t1 (decAt dd_MD_isSpent 82 rfl) (by decide) rfl (by rw [ht1]; rfl) (by omega) ?_
                    refine v_if_eq G 157 (decAt dd_MD_isSpent 83 rfl) (by decide) (fun c142 => ?_) (fun c142 => ?_)
                    · skip
                      refine v_iinc_3 G (nI (i + 1)) (decAt dd_MD_isSpent 92 rfl) (nI_1 i) (by decide) rfl ?_
                      refine v_goto G 77 (decAt dd_MD_isSpent 93 rfl) (by decide) ?_
                      exact ih77 (i + 1) A1 more _ _ (by omega) hfr hI (fun q => lt_s (hM q) (by first | exact Or.inr ⟨t1, Or.inr ht1, c142⟩ | exact Or.inr ⟨t0, Or.inl ht0, c126⟩ | exact Or.inl c91)) hc1 hc2
                    · skip
                      refine v_aload_n G (decAt dd_MD_isSpent 84 rfl) rfl ?_
                      refine v_geta G (decAt dd_MD_isSpent 85 rfl) f_MD_25 ?_
                      refine v_iload_n G (decAt dd_MD_isSpent 86 rfl) rfl ?_
                      refine v_iconst G 1 (decAt dd_MD_isSpent 87 rfl) (by decide) ?_
                      refine v_zast G 34 _ (decAt dd_MD_isSpent 88 rfl) (by decide) rfl (by first | with_reducible rfl | with_reducible exact nI_1 _ | with_reducible exact nI_add _ _ | assumption) (by omega) rfl ?_
                      have hcn : cnt (va_up (A1 34) i 1) cd.length + 1 = cnt (A1 34) cd.length := cnt_up (by decide) hil c91
                      refine v_iinc_1 G (nI (cnt (va_up (A1 34) i 1) cd.length)) (decAt dd_MD_isSpent 89 rfl) (by rw [← hcn]; exact pk_m1 _) (by decide) rfl ?_
                      refine v_iconst G 1 (decAt dd_MD_isSpent 90 rfl) (by decide) ?_
                      refine v_istore_2 G (decAt dd_MD_isSpent 91 rfl) (by decide) rfl ?_
                      refine v_iinc_3 G (nI (i + 1)) (decAt dd_MD_isSpent 92 rfl) (nI_1 i) (by decide) rfl ?_
                      refine v_goto G 77 (decAt dd_MD_isSpent 93 rfl) (by decide) ?_
                      exact ih77 (i + 1) (va_up A1 34 (va_up (A1 34) i 1)) true _ _ (by omega) (fun q h1 => by rw [va_up_ne _ _ h1]; exact hfr q h1) (hI.up hH hil c91 (fun t ht => by
                        rcases ht with ht | ht
                        · first
                            | (rw [ht0] at ht; cases ht; exact c126)
                            | (rw [ht] at c116; exact absurd c116 (nI_m1 (by have := nx0_le ht; omega)))
                        · first
                            | (rw [ht1] at ht; cases ht; exact c142)
                            | (rw [ht] at c132; exact absurd c132 (nI_m1 (by have := nx1_lt ht; omega)))))
                        (fun q => (by cases q)) (fun _ => by show cnt (va_up (A1 34) i 1) cd.length < K; omega) (by show cnt (va_up (A1 34) i 1) cd.length ≤ K; omega)
                · skip
                  obtain ⟨t0, ht0⟩ : ∃ t, nx0 cd i = some t := by
                    cases hq : nx0 cd i with
                    | none => rw [hq] at c116; exact absurd rfl c116
                    | some t => exact ⟨t, rfl⟩
                  have hl0 := (hH.nx hil hne (Or.inl ht0)).1
                  refine v_aload_n G (decAt dd_MD_isSpent 71 rfl) rfl ?_
                  refine v_geta G (decAt dd_MD_isSpent 72 rfl) f_MD_25 ?_
                  refine v_iload G (decAt dd_MD_isSpent 73 rfl) rfl ?_
                  refine v_zald G 34 t0 (decAt dd_MD_isSpent 74 rfl) (by decide) rfl (by rw [ht0]; rfl) (by omega) ?_
                  refine v_if_eq G 157 (decAt dd_MD_isSpent 75 rfl) (by decide) (fun c126 => ?_) (fun c126 => ?_)
                  · skip
                    refine v_iinc_3 G (nI (i + 1)) (decAt dd_MD_isSpent 92 rfl) (nI_1 i) (by decide) rfl ?_
                    refine v_goto G 77 (decAt dd_MD_isSpent 93 rfl) (by decide) ?_
                    exact ih77 (i + 1) A1 more _ _ (by omega) hfr hI (fun q => lt_s (hM q) (by first | exact Or.inr ⟨t1, Or.inr ht1, c142⟩ | exact Or.inr ⟨t0, Or.inl ht0, c126⟩ | exact Or.inl c91)) hc1 hc2
                  · skip
                    refine v_iload G (decAt dd_MD_isSpent 76 rfl) rfl ?_
                    refine v_iconst G (-1) (decAt dd_MD_isSpent 77 rfl) (by decide) ?_
                    refine v_icmp_eq G 145 (decAt dd_MD_isSpent 78 rfl) (by decide) (fun c132 => ?_) (fun c132 => ?_)
                    · skip
                      refine v_aload_n G (decAt dd_MD_isSpent 84 rfl) rfl ?_
                      refine v_geta G (decAt dd_MD_isSpent 85 rfl) f_MD_25 ?_
                      refine v_iload_n G (decAt dd_MD_isSpent 86 rfl) rfl ?_
                      refine v_iconst G 1 (decAt dd_MD_isSpent 87 rfl) (by decide) ?_
                      refine v_zast G 34 _ (decAt dd_MD_isSpent 88 rfl) (by decide) rfl (by first | with_reducible rfl | with_reducible exact nI_1 _ | with_reducible exact nI_add _ _ | assumption) (by omega) rfl ?_
                      have hcn : cnt (va_up (A1 34) i 1) cd.length + 1 = cnt (A1 34) cd.length := cnt_up (by decide) hil c91
                      refine v_iinc_1 G (nI (cnt (va_up (A1 34) i 1) cd.length)) (decAt dd_MD_isSpent 89 rfl) (by rw [← hcn]; exact pk_m1 _) (by decide) rfl ?_
                      refine v_iconst G 1 (decAt dd_MD_isSpent 90 rfl) (by decide) ?_
                      refine v_istore_2 G (decAt dd_MD_isSpent 91 rfl) (by decide) rfl ?_
                      refine v_iinc_3 G (nI (i + 1)) (decAt dd_MD_isSpent 92 rfl) (nI_1 i) (by decide) rfl ?_
                      refine v_goto G 77 (decAt dd_MD_isSpent 93 rfl) (by decide) ?_
                      exact ih77 (i + 1) (va_up A1 34 (va_up (A1 34) i 1)) true _ _ (by omega) (fun q h1 => by rw [va_up_ne _ _ h1]; exact hfr q h1) (hI.up hH hil c91 (fun t ht => by
                        rcases ht with ht | ht
                        · first
                            | (rw [ht0] at ht; cases ht; exact c126)
                            | (rw [ht] at c116; exact absurd c116 (nI_m1 (by have := nx0_le ht; omega)))
                        · first
                            | (rw [ht1] at ht; cases ht; exact c142)
                            | (rw [ht] at c132; exact absurd c132 (nI_m1 (by have := nx1_lt ht; omega)))))
                        (fun q => (by cases q)) (fun _ => by show cnt (va_up (A1 34) i 1) cd.length < K; omega) (by show cnt (va_up (A1 34) i 1) cd.length ≤ K; omega)
                    · skip
                      obtain ⟨t1, ht1⟩ : ∃ t, nx1 cd i = some t := by
                        cases hq : nx1 cd i with
                        | none => rw [hq] at c132; exact absurd rfl c132
                        | some t => exact ⟨t, rfl⟩
                      have hl1 := (hH.nx hil hne (Or.inr ht1)).1
                      refine v_aload_n G (decAt dd_MD_isSpent 79 rfl) rfl ?_
                      refine v_geta G (decAt dd_MD_isSpent 80 rfl) f_MD_25 ?_
                      refine v_iload G (decAt dd_MD_isSpent 81 rfl) rfl ?_
                      refine v_zald G 34 t1 (decAt dd_MD_isSpent 82 rfl) (by decide) rfl (by rw [ht1]; rfl) (by omega) ?_
                      refine v_if_eq G 157 (decAt dd_MD_isSpent 83 rfl) (by decide) (fun c142 => ?_) (fun c142 => ?_)
                      · skip
                        refine v_iinc_3 G (nI (i + 1)) (decAt dd_MD_isSpent 92 rfl) (nI_1 i) (by decide) rfl ?_
                        refine v_goto G 77 (decAt dd_MD_isSpent 93 rfl) (by decide) ?_
                        exact ih77 (i + 1) A1 more _ _ (by omega) hfr hI (fun q => lt_s (hM q) (by first | exact Or.inr ⟨t1, Or.inr ht1, c142⟩ | exact Or.inr ⟨t0, Or.inl ht0, c126⟩ | exact Or.inl c91)) hc1 hc2
                      · skip
                        refine v_aload_n G (decAt dd_MD_isSpent 84 rfl) rfl ?_
                        refine v_geta G (decAt dd_MD_isSpent 85 rfl) f_MD_25 ?_
                        refine v_iload_n G (decAt dd_MD_isSpent 86 rfl) rfl ?_
                        refine v_iconst G 1 (decAt dd_MD_isSpent 87 rfl) (by decide) ?_
                        refine v_zast G 34 _ (decAt dd_MD_isSpent 88 rfl) (by decide) rfl (by first | with_reducible rfl | with_reducible exact nI_1 _ | with_reducible exact nI_add _ _ | assumption) (by omega) rfl ?_
                        have hcn : cnt (va_up (A1 34) i 1) cd.length + 1 = cnt (A1 34) cd.length := cnt_up (by decide) hil c91
                        refine v_iinc_1 G (nI (cnt (va_up (A1 34) i 1) cd.length)) (decAt dd_MD_isSpent 89 rfl) (by rw [← hcn]; exact pk_m1 _) (by decide) rfl ?_
                        refine v_iconst G 1 (decAt dd_MD_isSpent 90 rfl) (by decide) ?_
                        refine v_istore_2 G (decAt dd_MD_isSpent 91 rfl) (by decide) rfl ?_
                        refine v_iinc_3 G (nI (i + 1)) (decAt dd_MD_isSpent 92 rfl) (nI_1 i) (by decide) rfl ?_
                        refine v_goto G 77 (decAt dd_MD_isSpent 93 rfl) (by decide) ?_
                        exact ih77 (i + 1) (va_up A1 34 (va_up (A1 34) i 1)) true _ _ (by omega) (fun q h1 => by rw [va_up_ne _ _ h1]; exact hfr q h1) (hI.up hH hil c91 (fun t ht => by
                          rcases ht with ht | ht
                          · first
                              | (rw [ht0] at ht; cases ht; exact c126)
                              | (rw [ht] at c116; exact absurd c116 (nI_m1 (by have := nx0_le ht; omega)))
                          · first
                              | (rw [ht1] at ht; cases ht; exact c142)
                              | (rw [ht] at c132; exact absurd c132 (nI_m1 (by have := nx1_lt ht; omega)))))
                          (fun q => (by cases q)) (fun _ => by show cnt (va_up (A1 34) i 1) cd.length < K; omega) (by show cnt (va_up (A1 34) i 1) cd.length ≤ K; omega)
              · skip
                refine v_goto G 157 (decAt dd_MD_isSpent 57 rfl) (by decide) ?_
                refine v_iinc_3 G (nI (i + 1)) (decAt dd_MD_isSpent 92 rfl) (nI_1 i) (by decide) rfl ?_
                refine v_goto G 77 (decAt dd_MD_isSpent 93 rfl) (by decide) ?_
                exact ih77 (i + 1) A1 more _ _ (by omega) hfr hI (fun q => lt_s (hM q) (by first | exact Or.inr ⟨t1, Or.inr ht1, c142⟩ | exact Or.inr ⟨t0, Or.inl ht0, c126⟩ | exact Or.inl c91)) hc1 hc2
        refine v_iload_n G (decAt dd_MD_isSpent 42 rfl) rfl ?_
        refine v_if_eq G 166 (decAt dd_MD_isSpent 43 rfl) (by decide) (fun c70 => ?_) (fun c70 => ?_)
        · skip
          exact absurd c70 (by decide)
        · skip
          refine v_iconst G 0 (decAt dd_MD_isSpent 44 rfl) (by decide) ?_
          refine v_istore_2 G (decAt dd_MD_isSpent 45 rfl) (by decide) rfl ?_
          refine v_iconst G 0 (decAt dd_MD_isSpent 46 rfl) (by decide) ?_
          refine v_istore_3 G (decAt dd_MD_isSpent 47 rfl) (by decide) rfl ?_
          exact J77 cd.length 0 A1 false _ _ (by omega) hfr hI (fun _ j hj => absurd hj (by omega)) (fun q => (by cases q)) (by omega)
  have J4 : ∀ (d i : Nat) (A1 : Nat → Nat → Int32), i + d = cd.length → (∀ i, i ≠ 34 → A1 i = A i) → (∀ j, j < i → (A1 34 j ≠ 0 ↔ (A 33 j = -1 ∨ op cd j = 15))) → V p l e ({ frames := 2, cells := 0, slots := 0, locals := 46 } : Room) s m args below meth c 6 (Sy E DM AM s.heap ρ g A1 n tx) 0 0 (MQ below (QW E DM AM (fun r ρ' g' A' n' tx' => ∃ b : Bool, r = some (.int (bI b)) ∧ (b = true ↔ Acy cd) ∧ ρ' = ρ ∧ g' = g ∧ n' = n ∧ tx' = tx ∧ ∀ i, i ≠ 34 → A' i = A i)) args s 0 0 E.F) 4 [some (.ref (E.o 6)), some (.int (nI (cnt (A1 34) i))), some (.int (nI i)), none, none, none] [] := by
    intro d
    induction d with
    | zero =>
      intro i A1 hi hfr hz
      have hi : i = cd.length := hi
      refine v_iload_n G (decAt dd_MD_isSpent 4 rfl) rfl ?_
      refine v_aload_n G (decAt dd_MD_isSpent 5 rfl) rfl ?_
      refine v_geti G (decAt dd_MD_isSpent 6 rfl) f_MD_36 ?_
      refine v_ri (y := (nI cd.length)) hs ?_
      refine v_icmp_ge G 67 (decAt dd_MD_isSpent 7 rfl) (by decide) (fun c9 => ?_) (fun c9 => ?_)
      · skip
        refine v_iconst G 1 (decAt dd_MD_isSpent 40 rfl) (by decide) ?_
        refine v_istore_2 G (decAt dd_MD_isSpent 41 rfl) (by decide) rfl ?_
        rw [hi]
        exact J69 (cd.length + 1) A1 true _ _ _ hfr ⟨fun j hj hc => (hz j (by omega)).mpr hc, fun _ => 0, 0, fun j hj hg hne ho => absurd ((hz j (by omega)).mp hg) (fun z => z.elim hne ho)⟩ (fun q => (by cases q)) (fun _ => by have := cnt_le (A1 34) cd.length; omega)
      · skip
        exact absurd (nI_le (by omega) (by omega)) c9
    | succ d ih =>
      intro i A1 hi hfr hz
      have hil : i < cd.length := by omega
      have hCA : CodeIs cd (A1 29) (A1 30) := by rw [hfr 29 (by decide), hfr 30 (by decide)]; exact hC
      obtain ⟨⟨M, k⟩, hi0⟩ : ∃ q, cd[i]? = some q := ⟨cd[i], List.getElem?_eq_getElem hil⟩
      obtain ⟨hN1, hN2, hN3⟩ := hCA i M k hi0
      have hop := op_at hi0
      refine v_iload_n G (decAt dd_MD_isSpent 4 rfl) rfl ?_
      refine v_aload_n G (decAt dd_MD_isSpent 5 rfl) rfl ?_
      refine v_geti G (decAt dd_MD_isSpent 6 rfl) f_MD_36 ?_
      refine v_ri (y := (nI cd.length)) hs ?_
      refine v_icmp_ge G 67 (decAt dd_MD_isSpent 7 rfl) (by decide) (fun c9 => ?_) (fun c9 => ?_)
      · skip
        exact absurd c9 (nI_ge (by omega) (by omega))
      · skip
        refine v_aload_n G (decAt dd_MD_isSpent 8 rfl) rfl ?_
        refine v_geta G (decAt dd_MD_isSpent 9 rfl) f_MD_25 ?_
        refine v_iload_n G (decAt dd_MD_isSpent 10 rfl) rfl ?_
        refine v_aload_n G (decAt dd_MD_isSpent 11 rfl) rfl ?_
        refine v_geta G (decAt dd_MD_isSpent 12 rfl) f_MD_22 ?_
        refine v_iload_n G (decAt dd_MD_isSpent 13 rfl) rfl ?_
        refine v_iald G 33 _ (decAt dd_MD_isSpent 14 rfl) (by decide) rfl (by first | with_reducible rfl | with_reducible exact nI_1 _ | with_reducible exact nI_add _ _ | assumption) (by omega) ?_
        refine v_ri (y := (A 33) i) (congrFun (hfr 33 (by decide)) i) ?_
        refine v_iconst G (-1) (decAt dd_MD_isSpent 15 rfl) (by decide) ?_
        refine v_icmp_eq G 38 (decAt dd_MD_isSpent 16 rfl) (by decide) (fun c24 => ?_) (fun c24 => ?_)
        · skip
          refine v_iconst G 1 (decAt dd_MD_isSpent 23 rfl) (by decide) ?_
          refine v_goto G 43 (decAt dd_MD_isSpent 24 rfl) (by decide) ?_
          refine v_zast G 34 i (decAt dd_MD_isSpent 26 rfl) (by decide) rfl rfl (by omega) rfl ?_
          refine v_iload_n G (decAt dd_MD_isSpent 27 rfl) rfl ?_
          refine v_aload_n G (decAt dd_MD_isSpent 28 rfl) rfl ?_
          refine v_geta G (decAt dd_MD_isSpent 29 rfl) f_MD_25 ?_
          refine v_iload_n G (decAt dd_MD_isSpent 30 rfl) rfl ?_
          refine v_zald G 34 i (decAt dd_MD_isSpent 31 rfl) (by decide) rfl rfl (by omega) ?_
          refine v_ri (y := 1) (va_up_self _ _ _) ?_
          refine v_if_eq G 58 (decAt dd_MD_isSpent 32 rfl) (by decide) (fun c51 => ?_) (fun c51 => ?_)
          · skip
            exact absurd c51 (by decide)
          · skip
            refine v_iconst G 0 (decAt dd_MD_isSpent 33 rfl) (by decide) ?_
            refine v_goto G 59 (decAt dd_MD_isSpent 34 rfl) (by decide) ?_
            refine v_iadd G (decAt dd_MD_isSpent 36 rfl) ?_
            refine v_ri (y := nI (cnt (va_up (A1 34) i 1) (i + 1))) (by rw [cnt, cnt_same i (Nat.le_refl _), va_up_self]; exact nI_add _ _) ?_
            refine v_istore_1 G (decAt dd_MD_isSpent 37 rfl) (by decide) rfl ?_
            refine v_iinc_2 G (nI (i + 1)) (decAt dd_MD_isSpent 38 rfl) (nI_1 i) (by decide) rfl ?_
            refine v_goto G 4 (decAt dd_MD_isSpent 39 rfl) (by decide) ?_
            exact ih (i + 1) (va_up A1 34 (va_up (A1 34) i 1)) (by omega) (fun q h1 => by rw [va_up_ne _ _ h1]; exact hfr q h1) (fun j hj => by
              show va_up (A1 34) i 1 j ≠ 0 ↔ _
              by_cases e : j = i
              · subst e
                rw [va_up_self]
                exact ⟨fun _ => by first | exact Or.inl c24 | exact Or.inr (hop.trans ((nI_eq (a := M) (b := 15) (by omega) (by omega)).mp c35)), fun _ => by decide⟩
              · rw [va_up_ne _ _ e]; exact hz j (by omega))
        · skip
          refine v_aload_n G (decAt dd_MD_isSpent 17 rfl) rfl ?_
          refine v_geta G (decAt dd_MD_isSpent 18 rfl) f_MD_7 ?_
          refine v_iload_n G (decAt dd_MD_isSpent 19 rfl) rfl ?_
          refine v_iald G 29 _ (decAt dd_MD_isSpent 20 rfl) (by decide) rfl (by first | with_reducible rfl | with_reducible exact nI_1 _ | with_reducible exact nI_add _ _ | assumption) (by omega) ?_
          refine v_ri (y := nI M) hN1 ?_
          refine v_bipush G 15 (decAt dd_MD_isSpent 21 rfl) (by decide) ?_
          refine v_icmp_ne G 42 (decAt dd_MD_isSpent 22 rfl) (by decide) (fun c35 => ?_) (fun c35 => ?_)
          · skip
            refine v_iconst G 0 (decAt dd_MD_isSpent 25 rfl) (by decide) ?_
            refine v_zast G 34 i (decAt dd_MD_isSpent 26 rfl) (by decide) rfl rfl (by omega) rfl ?_
            refine v_iload_n G (decAt dd_MD_isSpent 27 rfl) rfl ?_
            refine v_aload_n G (decAt dd_MD_isSpent 28 rfl) rfl ?_
            refine v_geta G (decAt dd_MD_isSpent 29 rfl) f_MD_25 ?_
            refine v_iload_n G (decAt dd_MD_isSpent 30 rfl) rfl ?_
            refine v_zald G 34 i (decAt dd_MD_isSpent 31 rfl) (by decide) rfl rfl (by omega) ?_
            refine v_ri (y := 0) (va_up_self _ _ _) ?_
            refine v_if_eq G 58 (decAt dd_MD_isSpent 32 rfl) (by decide) (fun c51 => ?_) (fun c51 => ?_)
            · skip
              refine v_iconst G 1 (decAt dd_MD_isSpent 35 rfl) (by decide) ?_
              refine v_iadd G (decAt dd_MD_isSpent 36 rfl) ?_
              refine v_ri (y := nI (cnt (va_up (A1 34) i 0) (i + 1))) (by rw [cnt, cnt_same i (Nat.le_refl _), va_up_self]; exact nI_add _ _) ?_
              refine v_istore_1 G (decAt dd_MD_isSpent 37 rfl) (by decide) rfl ?_
              refine v_iinc_2 G (nI (i + 1)) (decAt dd_MD_isSpent 38 rfl) (nI_1 i) (by decide) rfl ?_
              refine v_goto G 4 (decAt dd_MD_isSpent 39 rfl) (by decide) ?_
              exact ih (i + 1) (va_up A1 34 (va_up (A1 34) i 0)) (by omega) (fun q h1 => by rw [va_up_ne _ _ h1]; exact hfr q h1) (fun j hj => by
                show va_up (A1 34) i 0 j ≠ 0 ↔ _
                by_cases e : j = i
                · subst e
                  rw [va_up_self]
                  exact ⟨fun z => absurd rfl z, fun z => z.elim (fun q => absurd q c24) (fun q => absurd (by rw [← hop, q]; rfl) c35)⟩
                · rw [va_up_ne _ _ e]; exact hz j (by omega))
            · skip
              exact absurd rfl c51
          · skip
            refine v_iconst G 1 (decAt dd_MD_isSpent 23 rfl) (by decide) ?_
            refine v_goto G 43 (decAt dd_MD_isSpent 24 rfl) (by decide) ?_
            refine v_zast G 34 i (decAt dd_MD_isSpent 26 rfl) (by decide) rfl rfl (by omega) rfl ?_
            refine v_iload_n G (decAt dd_MD_isSpent 27 rfl) rfl ?_
            refine v_aload_n G (decAt dd_MD_isSpent 28 rfl) rfl ?_
            refine v_geta G (decAt dd_MD_isSpent 29 rfl) f_MD_25 ?_
            refine v_iload_n G (decAt dd_MD_isSpent 30 rfl) rfl ?_
            refine v_zald G 34 i (decAt dd_MD_isSpent 31 rfl) (by decide) rfl rfl (by omega) ?_
            refine v_ri (y := 1) (va_up_self _ _ _) ?_
            refine v_if_eq G 58 (decAt dd_MD_isSpent 32 rfl) (by decide) (fun c51 => ?_) (fun c51 => ?_)
            · skip
              exact absurd c51 (by decide)
            · skip
              refine v_iconst G 0 (decAt dd_MD_isSpent 33 rfl) (by decide) ?_
              refine v_goto G 59 (decAt dd_MD_isSpent 34 rfl) (by decide) ?_
              refine v_iadd G (decAt dd_MD_isSpent 36 rfl) ?_
              refine v_ri (y := nI (cnt (va_up (A1 34) i 1) (i + 1))) (by rw [cnt, cnt_same i (Nat.le_refl _), va_up_self]; exact nI_add _ _) ?_
              refine v_istore_1 G (decAt dd_MD_isSpent 37 rfl) (by decide) rfl ?_
              refine v_iinc_2 G (nI (i + 1)) (decAt dd_MD_isSpent 38 rfl) (nI_1 i) (by decide) rfl ?_
              refine v_goto G 4 (decAt dd_MD_isSpent 39 rfl) (by decide) ?_
              exact ih (i + 1) (va_up A1 34 (va_up (A1 34) i 1)) (by omega) (fun q h1 => by rw [va_up_ne _ _ h1]; exact hfr q h1) (fun j hj => by
                show va_up (A1 34) i 1 j ≠ 0 ↔ _
                by_cases e : j = i
                · subst e
                  rw [va_up_self]
                  exact ⟨fun _ => by first | exact Or.inl c24 | exact Or.inr (hop.trans ((nI_eq (a := M) (b := 15) (by omega) (by omega)).mp c35)), fun _ => by decide⟩
                · rw [va_up_ne _ _ e]; exact hz j (by omega))
  refine v_iconst G 0 (decAt dd_MD_isSpent 0 rfl) (by decide) ?_
  refine v_istore_1 G (decAt dd_MD_isSpent 1 rfl) (by decide) rfl ?_
  refine v_iconst G 0 (decAt dd_MD_isSpent 2 rfl) (by decide) ?_
  refine v_istore_2 G (decAt dd_MD_isSpent 3 rfl) (by decide) rfl ?_
  exact J4 cd.length 0 A (by omega) (fun _ _ => rfl) (fun j hj => absurd hj (by omega))
