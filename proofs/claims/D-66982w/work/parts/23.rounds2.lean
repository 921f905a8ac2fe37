/-! the class: whether no way goes round without fuel: the walk -/
theorem PI.mem {cd : Cod} {Sn Nt : Nat → Int32} : ∀ {π : List Nat} {up : Option Nat}, PI cd Sn Nt up π → ∀ j, j ∈ π → Sn j = 1
  | [], _, _, j, hj => by cases hj
  | k :: r, up, h, j, hj => by
    rcases List.mem_cons.mp hj with rfl | hj
    · exact h.1.2.1
    · exact PI.mem h.2 j hj
theorem PI.next {cd : Cod} {Sn Nt : Nat → Int32} {k q : Nat} {r : List Nat} {up : Option Nat} (h : PI cd Sn Nt none (k :: r)) (hn : k ∉ r) (hq : Nt k = nI q) (hq2 : q + 1 ≤ 2) (hnew : ∀ t, fol cd k q = some t → op cd t ≠ 15 → Sn t = 2 ∨ up = some t) (hup : ∀ u, up = some u → Nx cd k u ∧ op cd u ≠ 15) : PI cd Sn (va_up Nt k (nI (q + 1))) up (k :: r) := by
  obtain ⟨⟨a1, a2, a3, a4, ⟨q0, a5, a6, a7⟩, a8⟩, a9⟩ := h
  have e : q0 = q := (nI_eq (by omega) (by omega)).mp (a6.symm.trans hq)
  subst e
  refine ⟨⟨a1, a2, a3, a4, ⟨q0 + 1, hq2, va_up_self _ _ _, fun q' t b1 b2 b3 => ?_⟩, hup⟩, a9.ext (fun j hj => ⟨rfl, va_up_ne _ _ (fun z => hn (by rw [← z]; exact hj))⟩) (fun _ h => h)⟩
  by_cases e : q' = q0
  · subst e; exact hnew t b2 b3
  · rcases a7 q' t (by omega) b2 b3 with z | z
    · exact Or.inl z
    · cases z
theorem PI.push {cd : Cod} {Sn Nt : Nat → Int32} {t : Nat} {π : List Nat} (h : PI cd Sn Nt (some t) π) (h0 : Sn t = 0) (ht : t < cd.length) (hr : Rc cd t) (ho : op cd t ≠ 15) : PI cd (va_up Sn t 1) (va_up Nt t 0) none (t :: π) := by
  have hne : ∀ k, k ∈ π → k ≠ t := fun k hk z => by have := h.mem k hk; rw [z, h0] at this; exact absurd this (by decide)
  refine ⟨⟨ht, va_up_self _ _ _, hr, ho, ⟨0, by omega, va_up_self _ _ _, fun q' t' b => absurd b (by omega)⟩, fun u hu => by cases hu⟩, h.ext (fun k hk => ⟨va_up_ne _ _ (hne k hk), va_up_ne _ _ (hne k hk)⟩) (fun j hj => ?_)⟩
  rw [va_up_ne _ _ (fun z => by rw [z, h0] at hj; exact absurd hj (by decide))]
  exact hj
/-- what the search for circles leaves -/
abbrev ClQ (cd : Cod) (f : Nat) (S0 Sn : Nat → Int32) : Prop := DI cd Sn ∧ (∀ t, t < cd.length → Sn t = 0 ∨ Sn t = 2) ∧ Sn f = 2 ∧ ∀ t, t < cd.length → S0 t = 2 → Sn t = 2

theorem cnt_le_up {f : Nat → Int32} {k : Nat} {v : Int32} (hk : ¬ f k = 0) (hv : ¬ v = 0) : ∀ {n : Nat}, cnt (va_up f k v) n ≤ cnt f n
  | 0 => Nat.le_refl _
  | n + 1 => by
    have ih := cnt_le_up hk hv (n := n)
    unfold cnt
    by_cases e : n = k
    · subst e; rw [va_up_self, if_neg hv, if_neg hk]; omega
    · rw [va_up_ne _ _ e]; omega

set_option maxHeartbeats 4000000 in
theorem c_RC_isClear (l : Launch) {E : Bs} (hE : Hb E) {ρ : Nat → Nat} {g A : Nat → Nat → Int32} {n : Nat → Nat} {tx : Value} {cd : Cod} {f : Nat} (hn : RN n) (hsz : cd.length ≤ 400) (hC : CodeIs cd (A 0) (A 1)) (hL : LabC cd) (hla : ∀ lab, lab < 100 → A 2 lab = oI (lbl cd (nI lab))) (hH : HtsOK cd (A 3)) (hf : f < cd.length) (hrc : Rc cd f) (ho : op cd f ≠ 15) (hDI : DI cd (A 6)) (hS : ∀ t, t < cd.length → A 6 t = 0 ∨ A 6 t = 2) (h0 : A 6 f = 0) : CW l E DC AC y_RC_isClear b_RC_isClear 5 (some .boolean) ({ frames := 1, cells := 0, slots := 0, locals := 23 } : Room) [.ref (E.o 0), .int (nI f)] ρ g A n tx (fun r ρ' g' A' n' tx' => ∃ b : Bool, r = some (.int (bI b)) ∧ (b = true → ClQ cd f (A 6) (A' 6)) ∧ (b = false → ¬ Acy cd) ∧ ρ' = ρ ∧ g' = g ∧ n' = n ∧ tx' = tx ∧ ∀ i, i ≠ 6 → i ≠ 7 → i ≠ 8 → A' i = A i) := by
  obtain ⟨hn0, hn1, hn2, hn3, hn4, hn5, hn6, hn7, hn8, hn9⟩ := hn
  refine CW.start [some (.ref (E.o 0)), some (.int (nI f)), none, none, none] hE (by decide) (Nat.le_of_ble_eq_true rfl) rfl ?_
  intro p e s m args below meth c G
  have J23 : ∀ (μ : Nat) (A1 : Nat → Nat → Int32) (π : List Nat) (x3 x4 : Option Value), (∀ i, i ≠ 6 → i ≠ 7 → i ≠ 8 → A1 i = A i) → RowIs (A1 7) (π.map nI) → π.Nodup → PI cd (A1 6) (A1 8) none π → S3 cd (A1 6) π → DI cd (A1 6) → π.length + cnt (A1 6) cd.length ≤ cd.length → A1 6 f ≠ 0 → (∀ t, t < cd.length → A 6 t = 2 → A1 6 t = 2) → 5 * cnt (A1 6) cd.length + sumQ (A1 8) π < μ → V p l e ({ frames := 1, cells := 0, slots := 0, locals := 23 } : Room) s m args below meth c 5 (Sy E DC AC s.heap ρ g A1 n tx) 0 0 (MQ below (QW E DC AC (fun r ρ' g' A' n' tx' => ∃ b : Bool, r = some (.int (bI b)) ∧ (b = true → ClQ cd f (A 6) (A' 6)) ∧ (b = false → ¬ Acy cd) ∧ ρ' = ρ ∧ g' = g ∧ n' = n ∧ tx' = tx ∧ ∀ i, i ≠ 6 → i ≠ 7 → i ≠ 8 → A' i = A i)) args s 0 0 E.F) 23 [some (.ref (E.o 0)), some (.int (nI f)), some (.int (nI π.length)), x3, x4] [] := by
    intro μ
    induction μ with
    | zero => intro A1 π x3 x4 hfr hrow hnd hPI hS3 hD hcn hf1 hmo hμ; exact absurd hμ (by omega)
    | succ μ ih =>
      intro A1 π x3 x4 hfr hrow hnd hPI hS3 hD hcn hf1 hmo hμ
      rcases π with _ | ⟨k, r⟩
      · skip
        refine v_iload_n G (decAt dd_RC_isClear 17 rfl) rfl ?_
        refine v_if_le G 157 (decAt dd_RC_isClear 18 rfl) (by decide) (fun _ => ?_) (fun c24 => absurd c24 (by decide))
        refine v_iconst G 1 (decAt dd_RC_isClear 95 rfl) (by decide) ?_
        exact v_zret G (decAt dd_RC_isClear 96 rfl) rfl rfl ⟨true, rfl, fun _ => ⟨hD, fun t ht => (hS3 t ht).imp id (fun z => z.elim (fun z => by cases z.2) id), ((hS3 f hf).resolve_left hf1).elim (fun z => by cases z.2) id, hmo⟩, fun q => (by cases q), rfl, rfl, rfl, rfl, hfr⟩
      · skip
        have hcn : r.length + 1 + cnt (A1 6) cd.length ≤ cd.length := hcn
        have hp : A1 7 r.length = nI k := by have := hrow.1; rwa [List.length_map] at this
        have hkr : k ∉ r := (List.nodup_cons.mp hnd).1
        have hndr : r.Nodup := (List.nodup_cons.mp hnd).2
        obtain ⟨⟨hkl, hk1, hkrc, hko, ⟨q, hq2, hNq, hex⟩, -⟩, hPr⟩ := id hPI
        have hCA : CodeIs cd (A1 0) (A1 1) := by rw [hfr 0 (by decide) (by decide) (by decide), hfr 1 (by decide) (by decide) (by decide)]; exact hC
        have hlA : ∀ lab, lab < 100 → A1 2 lab = oI (lbl cd (nI lab)) := by rw [hfr 2 (by decide) (by decide) (by decide)]; exact hla
        have hsum : sumQ (A1 8) (k :: r) = (4 - q) + sumQ (A1 8) r := by show (4 - (A1 8 k).toNatClampNeg) + _ = _; rw [hNq, nI_clamp (by omega)]
        have hsumN : ∀ v : Nat, v < 10 → sumQ (va_up (A1 8) k (nI v)) (k :: r) = (4 - v) + sumQ (A1 8) r := fun v hv => by show (4 - (va_up (A1 8) k (nI v) k).toNatClampNeg) + _ = _; rw [va_up_self, nI_clamp (by omega), sumQ_up hkr]
        refine v_L (L' := [some (.ref (E.o 0)), some (.int (nI f)), some (.int (nI (r.length + 1))), x3, x4]) (fun _ _ z => z) ?_
        refine v_iload_n G (decAt dd_RC_isClear 17 rfl) rfl ?_
        refine v_if_le G 157 (decAt dd_RC_isClear 18 rfl) (by decide) (fun c24 => ?_) (fun c24 => ?_)
        · skip
          exact absurd c24 (nI_nle (by omega) (by omega))
        · skip
          refine v_aload_n G (decAt dd_RC_isClear 19 rfl) rfl ?_
          refine v_geta G (decAt dd_RC_isClear 20 rfl) f_RC_63 ?_
          refine v_iload_n G (decAt dd_RC_isClear 21 rfl) rfl ?_
          refine v_iconst G 1 (decAt dd_RC_isClear 22 rfl) (by decide) ?_
          refine v_isub G (decAt dd_RC_isClear 23 rfl) ?_
          refine v_ri (y := (nI r.length)) (nI_pred r.length) ?_
          refine v_iald G 7 r.length (decAt dd_RC_isClear 24 rfl) (by decide) rfl rfl (by omega) ?_
          refine v_ri (y := nI k) hp ?_
          refine v_istore_3 G (decAt dd_RC_isClear 25 rfl) (by decide) rfl ?_
          refine v_aload_n G (decAt dd_RC_isClear 26 rfl) rfl ?_
          refine v_iload_n G (decAt dd_RC_isClear 27 rfl) rfl ?_
          refine v_aload_n G (decAt dd_RC_isClear 28 rfl) rfl ?_
          refine v_geta G (decAt dd_RC_isClear 29 rfl) f_RC_66 ?_
          refine v_iload_n G (decAt dd_RC_isClear 30 rfl) rfl ?_
          refine v_iald G 8 _ (decAt dd_RC_isClear 31 rfl) (by decide) rfl (by first | with_reducible rfl | with_reducible exact nI_1 _ | with_reducible exact nI_add _ _ | assumption) (by omega) ?_
          refine v_ri (y := nI q) hNq ?_
          refine v_callVis G (As := [.int (nI k), .int (nI q)]) (decAt dd_RC_isClear 32 rfl) k_RC_106 (c_RC_follows l hE (cd := cd) ⟨hn0, hn1, hn2, hn3, hn4, hn5, hn6, hn7, hn8, hn9⟩ hsz hCA hL hlA hkl hq2) (by decide) rfl rfl rfl (Nat.le_of_ble_eq_true rfl) (by decide) rfl rfl (by decide) ?_
          refine v_istore_4 G (decAt dd_RC_isClear 33 rfl) (by decide) rfl ?_
          refine v_aload_n G (decAt dd_RC_isClear 34 rfl) rfl ?_
          refine v_geta G (decAt dd_RC_isClear 35 rfl) f_RC_66 ?_
          refine v_iload_n G (decAt dd_RC_isClear 36 rfl) rfl ?_
          refine v_dup2 G (decAt dd_RC_isClear 37 rfl) rfl rfl ?_
          refine v_iald G 8 _ (decAt dd_RC_isClear 38 rfl) (by decide) rfl (by first | with_reducible rfl | with_reducible exact nI_1 _ | with_reducible exact nI_add _ _ | assumption) (by omega) ?_
          refine v_ri (y := nI q) hNq ?_
          refine v_iconst G 1 (decAt dd_RC_isClear 39 rfl) (by decide) ?_
          refine v_iadd G (decAt dd_RC_isClear 40 rfl) ?_
          refine v_ri (y := (nI (q + 1))) (nI_1 q) ?_
          refine v_iast G 8 k (decAt dd_RC_isClear 41 rfl) (by decide) rfl rfl (by omega) ?_
          cases hfo : fol cd k q with
          | none =>
            refine v_L (L' := [some (.ref (E.o 0)), some (.int (nI f)), some (.int (nI (r.length + 1))), some (.int (nI k)), some (.int (-1))]) (fun _ _ z => z) ?_
            refine v_iload G (decAt dd_RC_isClear 42 rfl) rfl ?_
            refine v_if_ge G 87 (decAt dd_RC_isClear 43 rfl) (by decide) (fun c61 => absurd c61 (by decide)) (fun _ => ?_)
            refine v_aload_n G (decAt dd_RC_isClear 44 rfl) rfl ?_
            refine v_geta G (decAt dd_RC_isClear 45 rfl) f_RC_66 ?_
            refine v_iload_n G (decAt dd_RC_isClear 46 rfl) rfl ?_
            refine v_iald G 8 _ (decAt dd_RC_isClear 47 rfl) (by decide) rfl (by first | with_reducible rfl | with_reducible exact nI_1 _ | with_reducible exact nI_add _ _ | assumption) (by omega) ?_
            refine v_ri (y := nI (q + 1)) (va_up_self _ _ _) ?_
            refine v_iconst G 1 (decAt dd_RC_isClear 48 rfl) (by decide) ?_
            refine v_icmp_le G 87 (decAt dd_RC_isClear 49 rfl) (by decide) (fun c71 => ?_) (fun c71 => ?_)
            · skip
              have hq0 : q = 0 := by
                rcases Nat.eq_zero_or_pos q with z | z
                · exact z
                · exact absurd c71 (nI_ge (a := 1) (b := q + 1) (by omega) (by omega))
              subst hq0
              refine v_iload G (decAt dd_RC_isClear 57 rfl) rfl ?_
              refine v_if_lt G 154 (decAt dd_RC_isClear 58 rfl) (by decide) (fun _ => ?_) (fun c89 => absurd c89 (by decide))
              refine v_goto G 23 (decAt dd_RC_isClear 94 rfl) (by decide) ?_
              exact ih _ (k :: r) _ _ (fun j h1 h2 h3 => by rw [va_up_ne _ _ h3]; exact hfr j h1 h2 h3) hrow hnd (hPI.next hkr hNq (by omega) (fun t ht => by rw [hfo] at ht; cases ht) (fun u hu => by cases hu)) hS3 hD hcn hf1 hmo (by show 5 * cnt (A1 6) cd.length + sumQ (va_up (A1 8) k (nI (0 + 1))) (k :: r) < μ; rw [hsumN _ (by omega)]; rw [hsum] at hμ; omega)
            · skip
              have hq1 : 1 ≤ q := by
                rcases Nat.eq_zero_or_pos q with z | z
                · exact absurd (by rw [z]; decide) c71
                · exact z
              refine v_aload_n G (decAt dd_RC_isClear 50 rfl) rfl ?_
              refine v_geta G (decAt dd_RC_isClear 51 rfl) f_RC_60 ?_
              refine v_iload_n G (decAt dd_RC_isClear 52 rfl) rfl ?_
              refine v_iconst G 2 (decAt dd_RC_isClear 53 rfl) (by decide) ?_
              refine v_iast G 6 _ (decAt dd_RC_isClear 54 rfl) (by decide) rfl (by first | with_reducible rfl | with_reducible exact nI_1 _ | with_reducible exact nI_add _ _ | assumption) (by omega) ?_
              refine v_iinc_2 G (nI r.length) (decAt dd_RC_isClear 55 rfl) (pk_m1 r.length) (by decide) rfl ?_
              refine v_goto G 154 (decAt dd_RC_isClear 56 rfl) (by decide) ?_
              refine v_goto G 23 (decAt dd_RC_isClear 94 rfl) (by decide) ?_
              have hall : ∀ t, Nx cd k t → op cd t ≠ 15 → A1 6 t = 2 := fun t ht hto => by
                have key : ∀ q', fol cd k q' = some t → A1 6 t = 2 := fun q' hq' => by
                  by_cases e : q' < q
                  · exact (hex q' t e hq' hto).elim id (fun z => by cases z)
                  · have h2 : q' ≤ 1 := by
                      rcases Nat.lt_or_ge q' 2 with z | z
                      · omega
                      · unfold fol at hq'; rw [if_neg (by omega), if_neg (by omega)] at hq'; cases hq'
                    have : q' = q := by omega
                    subst this
                    rw [hfo] at hq'; cases hq'
                exact (nx_fol ht).elim (key 0) (key 1)
              have hk2 : ¬ A1 6 k = 2 := by rw [hk1]; decide
              have hce : cnt (va_up (A1 6) k 2) cd.length ≤ cnt (A1 6) cd.length := cnt_le_up (by rw [hk1]; decide) (by decide)
              refine ih _ r _ _ (fun j h1 h2 h3 => by rw [va_up_ne _ _ h1, va_up_ne _ _ h3]; exact hfr j h1 h2 h3) hrow.2 hndr ?_ (fun t ht => ?_) (hD.up hk2 hall (fun t ht hto => nx_lt ht hto)) (by show r.length + cnt (va_up (A1 6) k 2) cd.length ≤ cd.length; omega) ?_ (fun t ht h2 => ?_) (by show 5 * cnt (va_up (A1 6) k 2) cd.length + sumQ (va_up (A1 8) k (nI (q + 1))) r < μ; rw [sumQ_up hkr]; rw [hsum] at hμ; omega)
              · refine PI.popped (k := k) (Sn := A1 6) (hPr.ext (fun j hj => ⟨rfl, va_up_ne _ _ (fun z => hkr (by rw [← z]; exact hj))⟩) (fun _ h => h)) hkr (fun j hj => va_up_ne _ _ hj) (va_up_self _ _ _)
              · show va_up (A1 6) k 2 t = 0 ∨ (va_up (A1 6) k 2 t = 1 ∧ t ∈ r) ∨ va_up (A1 6) k 2 t = 2
                by_cases e : t = k
                · subst e; rw [va_up_self]; exact Or.inr (Or.inr rfl)
                · rw [va_up_ne _ _ e]; exact (hS3 t ht).imp id (fun z => z.imp (fun z => ⟨z.1, (List.mem_cons.mp z.2).resolve_left e⟩) id)
              · show va_up (A1 6) k 2 f ≠ 0
                by_cases e : f = k
                · subst e; rw [va_up_self]; decide
                · rw [va_up_ne _ _ e]; exact hf1
              · show va_up (A1 6) k 2 t = 2
                by_cases e : t = k
                · subst e; exact va_up_self _ _ _
                · rw [va_up_ne _ _ e]; exact hmo t ht h2
          | some t =>
            refine v_L (L' := [some (.ref (E.o 0)), some (.int (nI f)), some (.int (nI (r.length + 1))), some (.int (nI k)), some (.int (nI t))]) (fun _ _ z => z) ?_
            have hnx := fol_nx hfo
            have hkne : A 3 k ≠ -1 := ((hH.rc (by omega)).mp hkrc).2
            have htl : t < cd.length := (hH.nx hkl hkne hnx).1
            obtain ⟨⟨M, a⟩, ht0⟩ : ∃ z, cd[t]? = some z := ⟨cd[t], List.getElem?_eq_getElem htl⟩
            obtain ⟨⟨Mk, ak⟩, hk0⟩ : ∃ z, cd[k]? = some z := ⟨cd[k], List.getElem?_eq_getElem hkl⟩
            obtain ⟨hN1, -, hN3⟩ := hCA t M a ht0
            have hop := op_at ht0
            have htrc : Rc cd t := hkrc.nx hk0 hnx
            have hq1 : q ≤ 1 := by
              rcases Nat.lt_or_ge q 2 with z | z
              · omega
              · unfold fol at hfo; rw [if_neg (by omega), if_neg (by omega)] at hfo; cases hfo
            refine v_iload G (decAt dd_RC_isClear 42 rfl) rfl ?_
            refine v_if_ge G 87 (decAt dd_RC_isClear 43 rfl) (by decide) (fun c61 => ?_) (fun c61 => ?_)
            · skip
              refine v_iload G (decAt dd_RC_isClear 57 rfl) rfl ?_
              refine v_if_lt G 154 (decAt dd_RC_isClear 58 rfl) (by decide) (fun c89 => ?_) (fun c89 => ?_)
              · skip
                exact absurd c89 (nI_pos (by omega))
              · skip
                refine v_aload_n G (decAt dd_RC_isClear 59 rfl) rfl ?_
                refine v_geta G (decAt dd_RC_isClear 60 rfl) f_RC_13 ?_
                refine v_iload G (decAt dd_RC_isClear 61 rfl) rfl ?_
                refine v_iald G 0 _ (decAt dd_RC_isClear 62 rfl) (by decide) rfl (by first | with_reducible rfl | with_reducible exact nI_1 _ | with_reducible exact nI_add _ _ | assumption) (by omega) ?_
                refine v_ri (y := nI M) hN1 ?_
                refine v_bipush G 15 (decAt dd_RC_isClear 63 rfl) (by decide) ?_
                refine v_icmp_eq G 154 (decAt dd_RC_isClear 64 rfl) (by decide) (fun c101 => ?_) (fun c101 => ?_)
                · skip
                  refine v_goto G 23 (decAt dd_RC_isClear 94 rfl) (by decide) ?_
                  exact ih _ (k :: r) _ _ (fun j h1 h2 h3 => by rw [va_up_ne _ _ h3]; exact hfr j h1 h2 h3) hrow hnd (hPI.next hkr hNq (by omega) (fun t' ht' hto' => by
                    have e : t' = t := by rw [hfo] at ht'; cases ht'; rfl
                    subst e
                    first
                      | exact absurd (by rw [hop]; exact (nI_eq (a := M) (b := 15) (by omega) (by omega)).mp c101) hto'
                      | exact Or.inl (by rcases hS3 t' htl with z | z | z; exact absurd z c124; exact absurd z.1 c112; exact z)) (fun u hu => by cases hu)) hS3 hD hcn hf1 hmo (by show 5 * cnt (A1 6) cd.length + sumQ (va_up (A1 8) k (nI (q + 1))) (k :: r) < μ; rw [hsumN _ (by omega)]; rw [hsum] at hμ; omega)
                · skip
                  have hto : op cd t ≠ 15 := fun z => c101 (by rw [← hop, z]; rfl)
                  refine v_aload_n G (decAt dd_RC_isClear 65 rfl) rfl ?_
                  refine v_geta G (decAt dd_RC_isClear 66 rfl) f_RC_60 ?_
                  refine v_iload G (decAt dd_RC_isClear 67 rfl) rfl ?_
                  refine v_iald G 6 _ (decAt dd_RC_isClear 68 rfl) (by decide) rfl (by first | with_reducible rfl | with_reducible exact nI_1 _ | with_reducible exact nI_add _ _ | assumption) (by omega) ?_
                  refine v_ri (y := (A1 6) t) rfl ?_
                  refine v_iconst G 1 (decAt dd_RC_isClear 69 rfl) (by decide) ?_
                  refine v_icmp_ne G 117 (decAt dd_RC_isClear 70 rfl) (by decide) (fun c112 => ?_) (fun c112 => ?_)
                  · skip
                    refine v_aload_n G (decAt dd_RC_isClear 73 rfl) rfl ?_
                    refine v_geta G (decAt dd_RC_isClear 74 rfl) f_RC_60 ?_
                    refine v_iload G (decAt dd_RC_isClear 75 rfl) rfl ?_
                    refine v_iald G 6 _ (decAt dd_RC_isClear 76 rfl) (by decide) rfl (by first | with_reducible rfl | with_reducible exact nI_1 _ | with_reducible exact nI_add _ _ | assumption) (by omega) ?_
                    refine v_ri (y := (A1 6) t) rfl ?_
                    refine v_if_ne G 154 (decAt dd_RC_isClear 77 rfl) (by decide) (fun c124 => ?_) (fun c124 => ?_)
                    · skip
                      refine v_goto G 23 (decAt dd_RC_isClear 94 rfl) (by decide) ?_
                      exact ih _ (k :: r) _ _ (fun j h1 h2 h3 => by rw [va_up_ne _ _ h3]; exact hfr j h1 h2 h3) hrow hnd (hPI.next hkr hNq (by omega) (fun t' ht' hto' => by
                        have e : t' = t := by rw [hfo] at ht'; cases ht'; rfl
                        subst e
                        first
                          | exact absurd (by rw [hop]; exact (nI_eq (a := M) (b := 15) (by omega) (by omega)).mp c101) hto'
                          | exact Or.inl (by rcases hS3 t' htl with z | z | z; exact absurd z c124; exact absurd z.1 c112; exact z)) (fun u hu => by cases hu)) hS3 hD hcn hf1 hmo (by show 5 * cnt (A1 6) cd.length + sumQ (va_up (A1 8) k (nI (q + 1))) (k :: r) < μ; rw [hsumN _ (by omega)]; rw [hsum] at hμ; omega)
                    · skip
                      refine v_aload_n G (decAt dd_RC_isClear 78 rfl) rfl ?_
                      refine v_geta G (decAt dd_RC_isClear 79 rfl) f_RC_60 ?_
                      refine v_iload G (decAt dd_RC_isClear 80 rfl) rfl ?_
                      refine v_iconst G 1 (decAt dd_RC_isClear 81 rfl) (by decide) ?_
                      refine v_iast G 6 _ (decAt dd_RC_isClear 82 rfl) (by decide) rfl (by first | with_reducible rfl | with_reducible exact nI_1 _ | with_reducible exact nI_add _ _ | assumption) (by omega) ?_
                      refine v_aload_n G (decAt dd_RC_isClear 83 rfl) rfl ?_
                      refine v_geta G (decAt dd_RC_isClear 84 rfl) f_RC_66 ?_
                      refine v_iload G (decAt dd_RC_isClear 85 rfl) rfl ?_
                      refine v_iconst G 0 (decAt dd_RC_isClear 86 rfl) (by decide) ?_
                      refine v_iast G 8 _ (decAt dd_RC_isClear 87 rfl) (by decide) rfl (by first | with_reducible rfl | with_reducible exact nI_1 _ | with_reducible exact nI_add _ _ | assumption) (by omega) ?_
                      refine v_aload_n G (decAt dd_RC_isClear 88 rfl) rfl ?_
                      refine v_geta G (decAt dd_RC_isClear 89 rfl) f_RC_63 ?_
                      refine v_iload_n G (decAt dd_RC_isClear 90 rfl) rfl ?_
                      refine v_iload G (decAt dd_RC_isClear 91 rfl) rfl ?_
                      refine v_iast G 7 _ (decAt dd_RC_isClear 92 rfl) (by decide) rfl (by first | with_reducible rfl | with_reducible exact nI_1 _ | with_reducible exact nI_add _ _ | assumption) (by omega) ?_
                      refine v_iinc_2 G (nI (r.length + 1 + 1)) (decAt dd_RC_isClear 93 rfl) (nI_1 (r.length + 1)) (by decide) rfl ?_
                      refine v_goto G 23 (decAt dd_RC_isClear 94 rfl) (by decide) ?_
                      have hcu := cnt_up (f := A1 6) (v := 1) (by decide) htl c124
                      have htn : t ∉ k :: r := fun z => by have := hPI.mem t z; rw [c124] at this; exact absurd this (by decide)
                      have hP2 := (hPI.next (up := some t) hkr hNq (by omega) (fun t' ht' _ => Or.inr (by rw [← hfo, ht'])) (fun u hu => by cases hu; exact ⟨hnx, hto⟩)).push c124 htl htrc hto
                      refine ih _ (t :: k :: r) _ _ (fun j h1 h2 h3 => by rw [va_up_ne _ _ h2, va_up_ne _ _ h3, va_up_ne _ _ h1, va_up_ne _ _ h3]; exact hfr j h1 h2 h3) ?_ (List.nodup_cons.mpr ⟨htn, hnd⟩) hP2 (fun j hj => ?_) (hD.keep (by rw [c124]; decide) (by decide)) (by show r.length + 1 + 1 + cnt (va_up (A1 6) t 1) cd.length ≤ cd.length; omega) ?_ (fun j hj h2 => ?_) ?_
                      · refine ⟨?_, RowIs.up hrow (by show (List.map nI (k :: r)).length ≤ r.length + 1; rw [List.length_map]; exact Nat.le_refl _)⟩
                        show va_up (A1 7) (r.length + 1) (nI t) (List.map nI (k :: r)).length = nI t
                        rw [List.length_map]; exact va_up_self _ _ _
                      · show va_up (A1 6) t 1 j = 0 ∨ (va_up (A1 6) t 1 j = 1 ∧ j ∈ t :: k :: r) ∨ va_up (A1 6) t 1 j = 2
                        by_cases e : j = t
                        · subst e; rw [va_up_self]; exact Or.inr (Or.inl ⟨rfl, List.mem_cons_self⟩)
                        · rw [va_up_ne _ _ e]; exact (hS3 j hj).imp id (fun z => z.imp (fun z => ⟨z.1, List.mem_cons_of_mem _ z.2⟩) id)
                      · show va_up (A1 6) t 1 f ≠ 0
                        by_cases e : f = t
                        · subst e; rw [va_up_self]; decide
                        · rw [va_up_ne _ _ e]; exact hf1
                      · show va_up (A1 6) t 1 j = 2
                        rw [va_up_ne _ _ (fun z => by have := hmo j hj h2; rw [z, c124] at this; exact absurd this (by decide))]; exact hmo j hj h2
                      · show 5 * cnt (va_up (A1 6) t 1) cd.length + sumQ (va_up (va_up (A1 8) k (nI (q + 1))) t 0) (t :: k :: r) < μ
                        have e1 : sumQ (va_up (va_up (A1 8) k (nI (q + 1))) t 0) (t :: k :: r) = 4 + ((4 - (q + 1)) + sumQ (A1 8) r) := by
                          show (4 - (va_up (va_up (A1 8) k (nI (q + 1))) t 0 t).toNatClampNeg) + sumQ (va_up (va_up (A1 8) k (nI (q + 1))) t 0) (k :: r) = _
                          rw [va_up_self, sumQ_up htn, hsumN _ (by omega)]; rfl
                        rw [e1]; rw [hsum] at hμ; omega
                  · skip
                    refine v_iconst G 0 (decAt dd_RC_isClear 71 rfl) (by decide) ?_
                    exact v_zret G (decAt dd_RC_isClear 72 rfl) rfl rfl ⟨false, rfl, fun z => (by cases z), fun _ => hPI.cycle (by rcases hS3 t htl with z | z | z; exact absurd (z.symm.trans c112) (by decide); exact z.2; exact absurd (z.symm.trans c112) (by decide)) hnx hto, rfl, rfl, rfl, rfl, fun j h1 h2 h3 => by rw [va_up_ne _ _ h3]; exact hfr j h1 h2 h3⟩
            · skip
              exact absurd (nI_pos' (by omega)) c61
  refine v_iconst G 1 (decAt dd_RC_isClear 0 rfl) (by decide) ?_
  refine v_istore_2 G (decAt dd_RC_isClear 1 rfl) (by decide) rfl ?_
  refine v_aload_n G (decAt dd_RC_isClear 2 rfl) rfl ?_
  refine v_geta G (decAt dd_RC_isClear 3 rfl) f_RC_63 ?_
  refine v_iconst G 0 (decAt dd_RC_isClear 4 rfl) (by decide) ?_
  refine v_iload_n G (decAt dd_RC_isClear 5 rfl) rfl ?_
  refine v_iast G 7 0 (decAt dd_RC_isClear 6 rfl) (by decide) rfl rfl (by omega) ?_
  refine v_aload_n G (decAt dd_RC_isClear 7 rfl) rfl ?_
  refine v_geta G (decAt dd_RC_isClear 8 rfl) f_RC_60 ?_
  refine v_iload_n G (decAt dd_RC_isClear 9 rfl) rfl ?_
  refine v_iconst G 1 (decAt dd_RC_isClear 10 rfl) (by decide) ?_
  refine v_iast G 6 _ (decAt dd_RC_isClear 11 rfl) (by decide) rfl (by first | with_reducible rfl | with_reducible exact nI_1 _ | with_reducible exact nI_add _ _ | assumption) (by omega) ?_
  refine v_aload_n G (decAt dd_RC_isClear 12 rfl) rfl ?_
  refine v_geta G (decAt dd_RC_isClear 13 rfl) f_RC_66 ?_
  refine v_iload_n G (decAt dd_RC_isClear 14 rfl) rfl ?_
  refine v_iconst G 0 (decAt dd_RC_isClear 15 rfl) (by decide) ?_
  refine v_iast G 8 _ (decAt dd_RC_isClear 16 rfl) (by decide) rfl (by first | with_reducible rfl | with_reducible exact nI_1 _ | with_reducible exact nI_add _ _ | assumption) (by omega) ?_
  have hcu := cnt_up (f := A 6) (v := 1) (by decide) hf h0
  exact J23 _ _ [f] none none (fun j h1 h2 h3 => by rw [va_up_ne _ _ h3, va_up_ne _ _ h1, va_up_ne _ _ h2]) ⟨rfl, trivial⟩ (by simp)
    ⟨⟨hf, va_up_self _ _ _, hrc, ho, ⟨0, by omega, va_up_self _ _ _, fun q' t b => absurd b (by omega)⟩, fun u hu => by cases hu⟩, trivial⟩
    (fun t ht => by
      show va_up (A 6) f 1 t = 0 ∨ (va_up (A 6) f 1 t = 1 ∧ t ∈ [f]) ∨ va_up (A 6) f 1 t = 2
      by_cases e : t = f
      · subst e; rw [va_up_self]; exact Or.inr (Or.inl ⟨rfl, List.mem_cons_self⟩)
      · rw [va_up_ne _ _ e]; exact (hS t ht).imp id Or.inr)
    (hDI.keep (by rw [h0]; decide) (by decide)) (by show 1 + cnt (va_up (A 6) f 1) cd.length ≤ cd.length; have := cnt_le (A 6) cd.length; omega) (by show va_up (A 6) f 1 f ≠ 0; rw [va_up_self]; decide)
    (fun t ht h2 => by show va_up (A 6) f 1 t = 2; rw [va_up_ne _ _ (fun z => by rw [z, h0] at h2; exact absurd h2 (by decide))]; exact h2) (Nat.lt_succ_self _)
set_option maxHeartbeats 4000000 in
theorem c_RC_areRounds (l : Launch) {E : Bs} (hE : Hb E) {ρ : Nat → Nat} {g A : Nat → Nat → Int32} {n : Nat → Nat} {tx : Value} {cd : Cod} (hn : RN n) (hs : g 0 2 = nI cd.length) (hsz : cd.length ≤ 400) (hpos : 0 < cd.length) (hC : CodeIs cd (A 0) (A 1)) (hL : LabC cd) (hla : ∀ lab, lab < 100 → A 2 lab = oI (lbl cd (nI lab))) (hH : HtsOK cd (A 3)) : CW l E DC AC y_RC_areRounds b_RC_areRounds 2 (some .boolean) ({ frames := 2, cells := 0, slots := 0, locals := 47 } : Room) [.ref (E.o 0)] ρ g A n tx (fun r ρ' g' A' n' tx' => ∃ b : Bool, r = some (.int (bI b)) ∧ (b = true ↔ Acy cd) ∧ ρ' = ρ ∧ g' = g ∧ n' = n ∧ tx' = tx ∧ ∀ i, i ≠ 6 → i ≠ 7 → i ≠ 8 → A' i = A i) := by
  obtain ⟨hn0, hn1, hn2, hn3, hn4, hn5, hn6, hn7, hn8, hn9⟩ := hn
  refine CW.start [some (.ref (E.o 0)), none] hE (by decide) (Nat.le_of_ble_eq_true rfl) rfl ?_
  intro p e s m args below meth c G
  have J25 : ∀ (d i : Nat) (A1 : Nat → Nat → Int32), i + d = cd.length → (∀ i, i ≠ 6 → i ≠ 7 → i ≠ 8 → A1 i = A i) → DI cd (A1 6) → (∀ t, t < cd.length → A1 6 t = 0 ∨ A1 6 t = 2) → (∀ j, j < i → Rc cd j → op cd j ≠ 15 → A1 6 j = 2) → V p l e ({ frames := 2, cells := 0, slots := 0, locals := 47 } : Room) s m args below meth c 2 (Sy E DC AC s.heap ρ g A1 n tx) 0 0 (MQ below (QW E DC AC (fun r ρ' g' A' n' tx' => ∃ b : Bool, r = some (.int (bI b)) ∧ (b = true ↔ Acy cd) ∧ ρ' = ρ ∧ g' = g ∧ n' = n ∧ tx' = tx ∧ ∀ i, i ≠ 6 → i ≠ 7 → i ≠ 8 → A' i = A i)) args s 0 0 E.F) 25 [some (.ref (E.o 0)), some (.int (nI i))] [] := by
    intro d
    induction d with
    | zero =>
      intro i A1 hi hfr hD hS hdone
      have hi : i = cd.length := hi
      refine v_iload_n G (decAt dd_RC_areRounds 15 rfl) rfl ?_
      refine v_aload_n G (decAt dd_RC_areRounds 16 rfl) rfl ?_
      refine v_geti G (decAt dd_RC_areRounds 17 rfl) f_RC_75 ?_
      refine v_ri (y := (nI cd.length)) hs ?_
      refine v_icmp_ge G 78 (decAt dd_RC_areRounds 18 rfl) (by decide) (fun c30 => ?_) (fun c30 => ?_)
      · skip
        refine v_iconst G 1 (decAt dd_RC_areRounds 43 rfl) (by decide) ?_
        exact v_zret G (decAt dd_RC_areRounds 44 rfl) rfl rfl ⟨true, rfl, ⟨fun _ => (by
          obtain ⟨rank, K, hr⟩ := hD
          exact ⟨rank, fun j hj hrc t ht hto => ((hr j ((hH.rc hpos).mp hrc).1 (hdone j (by have := ((hH.rc hpos).mp hrc).1; omega) hrc hj)).2 t ht hto).2⟩), fun _ => rfl⟩, rfl, rfl, rfl, rfl, hfr⟩
      · skip
        exact absurd (nI_le (by omega) (by omega)) c30
    | succ d ih =>
      intro i A1 hi hfr hD hS hdone
      have hil : i < cd.length := by omega
      have hCA : CodeIs cd (A1 0) (A1 1) := by rw [hfr 0 (by decide) (by decide) (by decide), hfr 1 (by decide) (by decide) (by decide)]; exact hC
      obtain ⟨⟨M, k⟩, hi0⟩ : ∃ q, cd[i]? = some q := ⟨cd[i], List.getElem?_eq_getElem hil⟩
      obtain ⟨hN1, hN2, hN3⟩ := hCA i M k hi0
      have hop := op_at hi0
      refine v_iload_n G (decAt dd_RC_areRounds 15 rfl) rfl ?_
      refine v_aload_n G (decAt dd_RC_areRounds 16 rfl) rfl ?_
      refine v_geti G (decAt dd_RC_areRounds 17 rfl) f_RC_75 ?_
      refine v_ri (y := (nI cd.length)) hs ?_
      refine v_icmp_ge G 78 (decAt dd_RC_areRounds 18 rfl) (by decide) (fun c30 => ?_) (fun c30 => ?_)
      · skip
        exact absurd c30 (nI_ge (by omega) (by omega))
      · skip
        refine v_aload_n G (decAt dd_RC_areRounds 19 rfl) rfl ?_
        refine v_geta G (decAt dd_RC_areRounds 20 rfl) f_RC_51 ?_
        refine v_iload_n G (decAt dd_RC_areRounds 21 rfl) rfl ?_
        refine v_iald G 3 _ (decAt dd_RC_areRounds 22 rfl) (by decide) rfl (by first | with_reducible rfl | with_reducible exact nI_1 _ | with_reducible exact nI_add _ _ | assumption) (by omega) ?_
        refine v_ri (y := (A 3) i) (congrFun (hfr 3 (by decide) (by decide) (by decide)) i) ?_
        refine v_if_lt G 72 (decAt dd_RC_areRounds 23 rfl) (by decide) (fun c39 => ?_) (fun c39 => ?_)
        · skip
          refine v_iinc_1 G (nI (i + 1)) (decAt dd_RC_areRounds 41 rfl) (nI_1 i) (by decide) rfl ?_
          refine v_goto G 25 (decAt dd_RC_areRounds 42 rfl) (by decide) ?_
          exact ih (i + 1) A1 (by omega) hfr hD hS (lt_s hdone (fun hr ho => by
            first
              | exact absurd (by rw [hop]; exact (nI_eq (a := M) (b := 15) (by omega) (by omega)).mp c59) ho
              | exact (hS i hil).resolve_left c48
              | (have h2 := ((hH.rc hpos).mp hr).2; exact absurd (hH.2.1.neg hil c39) h2)))
        · skip
          refine v_aload_n G (decAt dd_RC_areRounds 24 rfl) rfl ?_
          refine v_geta G (decAt dd_RC_areRounds 25 rfl) f_RC_60 ?_
          refine v_iload_n G (decAt dd_RC_areRounds 26 rfl) rfl ?_
          refine v_iald G 6 _ (decAt dd_RC_areRounds 27 rfl) (by decide) rfl (by first | with_reducible rfl | with_reducible exact nI_1 _ | with_reducible exact nI_add _ _ | assumption) (by omega) ?_
          refine v_if_ne G 72 (decAt dd_RC_areRounds 28 rfl) (by decide) (fun c48 => ?_) (fun c48 => ?_)
          · skip
            refine v_iinc_1 G (nI (i + 1)) (decAt dd_RC_areRounds 41 rfl) (nI_1 i) (by decide) rfl ?_
            refine v_goto G 25 (decAt dd_RC_areRounds 42 rfl) (by decide) ?_
            exact ih (i + 1) A1 (by omega) hfr hD hS (lt_s hdone (fun hr ho => by
              first
                | exact absurd (by rw [hop]; exact (nI_eq (a := M) (b := 15) (by omega) (by omega)).mp c59) ho
                | exact (hS i hil).resolve_left c48
                | (have h2 := ((hH.rc hpos).mp hr).2; exact absurd (hH.2.1.neg hil c39) h2)))
          · skip
            refine v_aload_n G (decAt dd_RC_areRounds 29 rfl) rfl ?_
            refine v_geta G (decAt dd_RC_areRounds 30 rfl) f_RC_13 ?_
            refine v_iload_n G (decAt dd_RC_areRounds 31 rfl) rfl ?_
            refine v_iald G 0 _ (decAt dd_RC_areRounds 32 rfl) (by decide) rfl (by first | with_reducible rfl | with_reducible exact nI_1 _ | with_reducible exact nI_add _ _ | assumption) (by omega) ?_
            refine v_ri (y := nI M) hN1 ?_
            refine v_bipush G 15 (decAt dd_RC_areRounds 33 rfl) (by decide) ?_
            refine v_icmp_eq G 72 (decAt dd_RC_areRounds 34 rfl) (by decide) (fun c59 => ?_) (fun c59 => ?_)
            · skip
              refine v_iinc_1 G (nI (i + 1)) (decAt dd_RC_areRounds 41 rfl) (nI_1 i) (by decide) rfl ?_
              refine v_goto G 25 (decAt dd_RC_areRounds 42 rfl) (by decide) ?_
              exact ih (i + 1) A1 (by omega) hfr hD hS (lt_s hdone (fun hr ho => by
                first
                  | exact absurd (by rw [hop]; exact (nI_eq (a := M) (b := 15) (by omega) (by omega)).mp c59) ho
                  | exact (hS i hil).resolve_left c48
                  | (have h2 := ((hH.rc hpos).mp hr).2; exact absurd (hH.2.1.neg hil c39) h2)))
            · skip
              refine v_aload_n G (decAt dd_RC_areRounds 35 rfl) rfl ?_
              refine v_iload_n G (decAt dd_RC_areRounds 36 rfl) rfl ?_
              have hrc : Rc cd i := (hH.rc hpos).mpr ⟨hil, fun z => c39 (by rw [z]; decide)⟩
              have hoi : op cd i ≠ 15 := fun z => c59 (by rw [← hop, z]; rfl)
              refine v_callVi0 G (As := [.int (nI i)]) (P := fun v ρ' g' A' n' tx' => ∃ b : Bool, v = bI b ∧ (b = true → ClQ cd i (A1 6) (A' 6)) ∧ (b = false → ¬ Acy cd) ∧ ρ' = ρ ∧ g' = g ∧ n' = n ∧ tx' = tx ∧ ∀ i, i ≠ 6 → i ≠ 7 → i ≠ 8 → A' i = A1 i) (rm := ({ frames := 1, cells := 0, slots := 0, locals := 23 } : Room)) (decAt dd_RC_areRounds 37 rfl) k_RC_103 (CW.mono (c_RC_isClear l hE (cd := cd) (f := i) ⟨hn0, hn1, hn2, hn3, hn4, hn5, hn6, hn7, hn8, hn9⟩ hsz hCA hL (by rw [hfr 2 (by decide) (by decide) (by decide)]; exact hla) (by rw [hfr 3 (by decide) (by decide) (by decide)]; exact hH) hil hrc hoi hD hS c48) fun r ρ' g' A' n' tx' h => by obtain ⟨b, h1, h2⟩ := h; exact ⟨_, h1, b, rfl, h2⟩) (by decide) rfl rfl rfl (Nat.le_of_ble_eq_true rfl) (by decide) rfl rfl (by decide) (fun v1 ρ1 g1 A2 n1 tx1 hv => ?_)
              obtain ⟨b1, rfl, hbt, hbf, e1, e2, e3, e4, hfr2⟩ := hv
              replace e1 := e1.symm
              replace e2 := e2.symm
              replace e3 := e3.symm
              replace e4 := e4.symm
              subst e1
              subst e2
              subst e3
              subst e4
              have hfr3 : ∀ i, i ≠ 6 → i ≠ 7 → i ≠ 8 → A2 i = A i := fun j h1 h2 h3 => (hfr2 j h1 h2 h3).trans (hfr j h1 h2 h3)
              refine v_if_ne G 72 (decAt dd_RC_areRounds 38 rfl) (by decide) (fun c67 => ?_) (fun c67 => ?_)
              · skip
                refine v_iinc_1 G (nI (i + 1)) (decAt dd_RC_areRounds 41 rfl) (nI_1 i) (by decide) rfl ?_
                refine v_goto G 25 (decAt dd_RC_areRounds 42 rfl) (by decide) ?_
                obtain ⟨k1, k2, k3, k4⟩ := hbt (eq_true_of_ne_false (fun z => c67 (bI_f z)))
                exact ih (i + 1) A2 (by omega) hfr3 k1 k2 (fun j hj hr ho => by
                  by_cases e : j = i
                  · subst e; exact k3
                  · exact k4 j (by omega) (hdone j (by omega) hr ho))
              · skip
                refine v_iconst G 0 (decAt dd_RC_areRounds 39 rfl) (by decide) ?_
                exact v_zret G (decAt dd_RC_areRounds 40 rfl) rfl rfl ⟨false, rfl, ⟨fun z => (by cases z), fun z => absurd z (hbf (by cases b1 with | true => exact absurd c67 (by decide) | false => rfl))⟩, rfl, rfl, rfl, rfl, hfr3⟩
  have J2 : ∀ (d i : Nat) (A1 : Nat → Nat → Int32), i + d = cd.length → (∀ i, i ≠ 6 → i ≠ 7 → i ≠ 8 → A1 i = A i) → (∀ j, j < i → A1 6 j = 0) → V p l e ({ frames := 2, cells := 0, slots := 0, locals := 47 } : Room) s m args below meth c 2 (Sy E DC AC s.heap ρ g A1 n tx) 0 0 (MQ below (QW E DC AC (fun r ρ' g' A' n' tx' => ∃ b : Bool, r = some (.int (bI b)) ∧ (b = true ↔ Acy cd) ∧ ρ' = ρ ∧ g' = g ∧ n' = n ∧ tx' = tx ∧ ∀ i, i ≠ 6 → i ≠ 7 → i ≠ 8 → A' i = A i)) args s 0 0 E.F) 2 [some (.ref (E.o 0)), some (.int (nI i))] [] := by
    intro d
    induction d with
    | zero =>
      intro i A1 hi hfr hz
      have hi : i = cd.length := hi
      refine v_iload_n G (decAt dd_RC_areRounds 2 rfl) rfl ?_
      refine v_aload_n G (decAt dd_RC_areRounds 3 rfl) rfl ?_
      refine v_geti G (decAt dd_RC_areRounds 4 rfl) f_RC_75 ?_
      refine v_ri (y := (nI cd.length)) hs ?_
      refine v_icmp_ge G 23 (decAt dd_RC_areRounds 5 rfl) (by decide) (fun c7 => ?_) (fun c7 => ?_)
      · skip
        refine v_iconst G 0 (decAt dd_RC_areRounds 13 rfl) (by decide) ?_
        refine v_istore_1 G (decAt dd_RC_areRounds 14 rfl) (by decide) rfl ?_
        exact J25 cd.length 0 A1 (by omega) hfr ⟨fun _ => 0, 0, fun j hj h2 => absurd ((hz j (by omega)).symm.trans h2) (by decide)⟩ (fun t ht => Or.inl (hz t (by omega))) (fun j hj => absurd hj (by omega))
      · skip
        exact absurd (nI_le (by omega) (by omega)) c7
    | succ d ih =>
      intro i A1 hi hfr hz
      refine v_iload_n G (decAt dd_RC_areRounds 2 rfl) rfl ?_
      refine v_aload_n G (decAt dd_RC_areRounds 3 rfl) rfl ?_
      refine v_geti G (decAt dd_RC_areRounds 4 rfl) f_RC_75 ?_
      refine v_ri (y := (nI cd.length)) hs ?_
      refine v_icmp_ge G 23 (decAt dd_RC_areRounds 5 rfl) (by decide) (fun c7 => ?_) (fun c7 => ?_)
      · skip
        exact absurd c7 (nI_ge (by omega) (by omega))
      · skip
        refine v_aload_n G (decAt dd_RC_areRounds 6 rfl) rfl ?_
        refine v_geta G (decAt dd_RC_areRounds 7 rfl) f_RC_60 ?_
        refine v_iload_n G (decAt dd_RC_areRounds 8 rfl) rfl ?_
        refine v_iconst G 0 (decAt dd_RC_areRounds 9 rfl) (by decide) ?_
        refine v_iast G 6 _ (decAt dd_RC_areRounds 10 rfl) (by decide) rfl (by first | with_reducible rfl | with_reducible exact nI_1 _ | with_reducible exact nI_add _ _ | assumption) (by omega) ?_
        refine v_iinc_1 G (nI (i + 1)) (decAt dd_RC_areRounds 11 rfl) (nI_1 i) (by decide) rfl ?_
        refine v_goto G 2 (decAt dd_RC_areRounds 12 rfl) (by decide) ?_
        exact ih (i + 1) _ (by omega) (fun q h1 h2 h3 => by rw [va_up_ne _ _ h1]; exact hfr q h1 h2 h3)
          (fun j hj => by
            by_cases e : j = i
            · subst e; exact va_up_self _ _ _
            · exact (va_up_ne _ _ e).trans (hz j (by omega)))
  refine v_iconst G 0 (decAt dd_RC_areRounds 0 rfl) (by decide) ?_
  refine v_istore_1 G (decAt dd_RC_areRounds 1 rfl) (by decide) rfl ?_
  exact J2 cd.length 0 A (by omega) (fun _ _ _ _ => rfl) (fun j hj => absurd hj (by omega))
