/-! the plain form's run: its loop -/
theorem c_up {g : Nat → Nat → Int32} {k f a b : Nat} {v : Int32} (h : ¬ (a = k ∧ b = f)) : up2 g k f v a b = g a b := up2_ne h
/-- what a run of the plain form leaves -/
def RunQ (g0 A0 g' A' : Nat → Nat → Int32) (val : Int32) (loc' wrd' : Nat → Int32) (fu' : Nat) : Prop := g' 6 6 = val ∧ g' 6 7 = nI fu' ∧ (∀ k f, ¬ (k = 6 ∧ (f = 6 ∨ f = 7 ∨ f = 11)) → g' k f = g0 k f) ∧ A' 31 = loc' ∧ A' 32 = wrd' ∧ ∀ i, i ≠ 35 → i ≠ 31 → i ≠ 32 → A' i = A0 i

theorem mdo_ev {n : Nat} {k : Int32} {σ : List Int32} {loc wrd : Nat → Int32} {ev : Nat} {σ' : List Int32} {loc' wrd' : Nat → Int32} (h : mdo n k σ loc wrd = some (ev, σ', loc', wrd')) : ev ≤ 3 := by
  unfold mdo at h
  repeat' split at h
  all_goals first | cases h | skip
  all_goals first | omega | skip
  all_goals (simp only [Option.some.injEq] at h; split at h <;> (simp only [Prod.mk.injEq] at h; omega))
theorem mdo_len {n : Nat} {k : Int32} {σ : List Int32} {loc wrd : Nat → Int32} {ev : Nat} {σ' : List Int32} {loc' wrd' : Nat → Int32} (h : mdo n k σ loc wrd = some (ev, σ', loc', wrd')) (hl : σ.length ≤ 61) : σ'.length ≤ 61 := by
  unfold mdo at h
  repeat' split at h
  all_goals first | cases h | skip
  all_goals first | (simp only [List.length_cons] at hl ⊢; omega) | (simp only [Option.some.injEq] at h; split at h <;> (simp only [Prod.mk.injEq] at h; obtain ⟨-, h2, -⟩ := h; subst h2; simp only [List.length_cons] at hl ⊢; omega)) | omega

set_option maxHeartbeats 4000000 in
theorem md_loop {p : Program} {l : Launch} {e : Env} {R : Room} {s : State} {m : MethodId} {args : Array Value} {below : List Frame} {meth : Method} {c : Code} {E : Bs} {own : String} (ho : own = "RowCodeModel") (G : Gd E p s m args meth c b_MD_run own 5 (some .int)) (hE : Hb E) {ρ : Nat → Nat} {g0 A0 : Nat → Nat → Int32} {n : Nat → Nat} {tx : Value} {cd : Cod} {x1 : Int32} {how : Nat} {val : Int32} {loc' wrd' : Nat → Int32} {fu' : Nat} {post : Post}
    (hR1 : (({ frames := 2, cells := 0, slots := 0, locals := 48 } : Room)).frames + 1 ≤ R.frames ∧ 8 + (7 + 11) + (({ frames := 2, cells := 0, slots := 0, locals := 48 } : Room)).locals ≤ R.locals) (hR2 : (({ frames := 1, cells := 0, slots := 0, locals := 22 } : Room)).frames + 1 ≤ R.frames ∧ 8 + (5 + 11) + (({ frames := 1, cells := 0, slots := 0, locals := 22 } : Room)).locals ≤ R.locals) (hR3 : (({ frames := 0, cells := 0, slots := 0, locals := 0 } : Room)).frames + 1 ≤ R.frames ∧ 8 + (1 + 11) + (({ frames := 0, cells := 0, slots := 0, locals := 0 } : Room)).locals ≤ R.locals) (hn : MN n) (hsz : cd.length ≤ 400) (hs0 : g0 6 1 = nI cd.length) (hC0 : CodeIs cd (A0 29) (A0 30)) (hpost : ∀ g' A', RunQ g0 A0 g' A' val loc' wrd' fu' → post (some (.int (nI how))) ρ g' A' n tx) :
    ∀ (N i : Nat) (σ : List Int32) (fu : Nat) (g A : Nat → Nat → Int32) (x3 x4 : Option Value), crun cd N i σ (A 31) (A 32) fu = some (how, val, loc', wrd', fu') → fu ≤ 20000 → g 6 6 = 0 → g 6 7 = nI fu → g 6 11 = nI σ.length → RowIs (A 35) σ → (∀ k f, ¬ (k = 6 ∧ (f = 6 ∨ f = 7 ∨ f = 11)) → g k f = g0 k f) → (∀ i, i ≠ 35 → i ≠ 31 → i ≠ 32 → A i = A0 i) →
      V p l e R s m args below meth c 5 (Sy E DM AM s.heap ρ g A n tx) 0 0 (MQ below (QW E DM AM post) args s 0 0 E.F) 42 [some (.ref (E.o 6)), some (.int x1), some (.int (nI i)), x3, x4] [] := by
  subst ho
  obtain ⟨hn1, hn2, hn3, hn4, hn5, hn6, hn7⟩ := hn
  intro N
  induction N with
  | zero =>
    intro i σ fu g A x3 x4 hrun
    cases hrun
  | succ N ih =>
    intro i σ fu g A x3 x4 hrun hfu hval hfuel hh hrow hfg hfA
    have hC : CodeIs cd (A 29) (A 30) := by rw [hfA 29 (by decide) (by decide) (by decide), hfA 30 (by decide) (by decide) (by decide)]; exact hC0
    have hs : g 6 1 = nI cd.length := (hfg 6 1 (by decide)).trans hs0
    unfold crun at hrun
    by_cases hl : 61 < σ.length
    · rw [if_pos hl] at hrun; cases hrun
    rw [if_neg hl] at hrun
    have hl : σ.length ≤ 61 := Nat.le_of_not_lt hl
    cases hi : cd[i]? with
    | none => rw [hi] at hrun; cases hrun
    | some q =>
    obtain ⟨M, k⟩ := q
    rw [hi] at hrun
    dsimp only at hrun
    have hil : i < cd.length := (List.getElem?_eq_some_iff.mp hi).1
    obtain ⟨hN1, hN2, hN3⟩ := hC i M k hi
    have ne : ∀ b : Nat, b < 100 → nI M = nI b → M = b := fun b hb z => (nI_eq (by omega) (by omega)).mp z
    have J : ¬ (M = 15 ∧ fu = 0) → (match mdo M k σ (A 31) (A 32) with
        | none => none
        | some (ev, σ', loc', wrd') =>
          if 0 < ev then some (ev, 0, loc', wrd', if M = 15 then fu - 1 else fu)
          else match cgo cd i M k σ' with
            | none => none
            | some (i', σ'') => crun cd N i' σ'' loc' wrd' (if M = 15 then fu - 1 else fu)) = some (how, val, loc', wrd', fu') → V p l e R s m args below meth c 5 (Sy E DM AM s.heap ρ g A n tx) 0 0 (MQ below (QW E DM AM post) args s 0 0 E.F) 88 [some (.ref (E.o 6)), some (.int x1), some (.int (nI i)), some (.int (nI M)), x4] [] := by
      intro hnf hrun
      cases hm : mdo M k σ (A 31) (A 32) with
      | none => rw [hm] at hrun; cases hrun
      | some q =>
      obtain ⟨ev, σ1, loc1, wrd1⟩ := q
      rw [hm] at hrun
      dsimp only at hrun
      generalize hfu1 : (if M = 15 then fu - 1 else fu) = fu1 at hrun
      have hfl : fu1 ≤ 20000 := by rw [← hfu1]; split <;> omega
      refine v_aload_n G (decAt dd_MD_run 51 rfl) rfl ?_
      refine v_dup G (decAt dd_MD_run 52 rfl) rfl ?_
      refine v_geti G (decAt dd_MD_run 53 rfl) f_MD_103 ?_
      refine v_ri (y := (nI fu)) hfuel ?_
      refine v_iload_n G (decAt dd_MD_run 54 rfl) rfl ?_
      refine v_bipush G 15 (decAt dd_MD_run 55 rfl) (by decide) ?_
      refine v_icmp_ne G 103 (decAt dd_MD_run 56 rfl) (by decide) (fun c96 => ?_) (fun c96 => ?_)
      · skip
        refine v_iconst G 0 (decAt dd_MD_run 59 rfl) (by decide) ?_
        refine v_isub G (decAt dd_MD_run 60 rfl) ?_
        have h15 : ¬ M = 15 := fun z => c96 (by rw [z]; rfl)
        refine v_ri (y := nI fu1) (by rw [← hfu1, if_neg h15]; exact Int32.sub_zero _) ?_
        clear c96 h15
        refine v_puti G (decAt dd_MD_run 61 rfl) f_MD_103 rfl rfl rfl ?_
        refine v_aload_n G (decAt dd_MD_run 62 rfl) rfl ?_
        refine v_iload_n G (decAt dd_MD_run 63 rfl) rfl ?_
        refine v_aload_n G (decAt dd_MD_run 64 rfl) rfl ?_
        refine v_geta G (decAt dd_MD_run 65 rfl) f_MD_13 ?_
        refine v_iload_n G (decAt dd_MD_run 66 rfl) rfl ?_
        refine v_iald G 30 _ (decAt dd_MD_run 67 rfl) (by decide) rfl (by first | with_reducible rfl | with_reducible exact nI_1 _ | with_reducible exact nI_add _ _ | assumption) (by omega) ?_
        refine v_ri (y := k) hN2 ?_
        refine v_callVi0 G (As := [.int (nI M), .int k]) (P := fun v ρ' g' A' n' tx' => v = nI ev ∧ MdQ σ1 loc1 wrd1 ρ (up2 g 6 7 (nI fu1)) A n tx ρ' g' A' n' tx') (rm := ({ frames := 2, cells := 0, slots := 0, locals := 48 } : Room)) (decAt dd_MD_run 68 rfl) k_MD_109 (CW.mono (c_MD_does l hE hN3 hm ⟨hn1, hn2, hn3, hn4, hn5, hn6, hn7⟩ hh hl hrow) fun r ρ' g' A' n' tx' h => ⟨_, h.1, rfl, h.2⟩) rfl rfl rfl rfl (Nat.le_of_ble_eq_true rfl) hR1 rfl rfl ⟨Nat.zero_le _, Nat.zero_le _⟩ (fun v1 ρ1 g1 A1 n1 tx1 hv => ?_)
        obtain ⟨rfl, rfl, rfl, rfl, rfl, hrow1, hA31, hA32, hAo⟩ := hv
        have hfg1 : ∀ k f, ¬ (k = 6 ∧ (f = 6 ∨ f = 7 ∨ f = 11)) → up2 (up2 g 6 7 (nI fu1)) 6 11 (nI σ1.length) k f = g0 k f := fun k f h => by rw [c_up (fun z => h ⟨z.1, Or.inr (Or.inr z.2)⟩), c_up (fun z => h ⟨z.1, Or.inr (Or.inl z.2)⟩)]; exact hfg k f h
        have hfA1 : ∀ i, i ≠ 35 → i ≠ 31 → i ≠ 32 → A1 i = A0 i := fun i h1 h2 h3 => (hAo i h1 h2 h3).trans (hfA i h1 h2 h3)
        refine v_istore_4 G (decAt dd_MD_run 69 rfl) (by decide) rfl ?_
        refine v_iload G (decAt dd_MD_run 70 rfl) rfl ?_
        refine v_if_le G 129 (decAt dd_MD_run 71 rfl) (by decide) (fun c123 => ?_) (fun c123 => ?_)
        · skip
          have hevb : ev ≤ 3 := mdo_ev hm
          have hev : ev = 0 := by
            rcases Nat.eq_zero_or_pos ev with z | z
            · exact z
            · exact absurd c123 (nI_nle z (by omega))
          subst hev
          rw [if_neg (by omega)] at hrun
          cases hg : cgo cd i M k σ1 with
          | none => rw [hg] at hrun; cases hrun
          | some q =>
          obtain ⟨i2, σ2⟩ := q
          rw [hg] at hrun
          dsimp only at hrun
          refine v_aload_n G (decAt dd_MD_run 74 rfl) rfl ?_
          refine v_iload_n G (decAt dd_MD_run 75 rfl) rfl ?_
          refine v_callVi0 G (As := [.int (nI i)]) (P := fun v ρ' g' A' n' tx' => v = nI i2 ∧ ρ' = ρ1 ∧ g' = up2 (up2 (up2 g 6 7 (nI fu1)) 6 11 (nI σ1.length)) 6 11 (nI σ2.length) ∧ A' = A1 ∧ n' = n1 ∧ tx' = tx1 ∧ RowIs (A1 35) σ2) (rm := ({ frames := 1, cells := 0, slots := 0, locals := 22 } : Room)) (decAt dd_MD_run 76 rfl) k_MD_112 (CW.mono (c_MD_goesOn l hE (cd := cd) (by rw [hfA1 29 (by decide) (by decide) (by decide), hfA1 30 (by decide) (by decide) (by decide)]; exact hC0) hi hg ⟨hn1, hn2, hn3, hn4, hn5, hn6, hn7⟩ ((hfg1 6 1 (by decide)).trans hs0) hsz rfl (mdo_len hm hl) hrow1) fun r ρ' g' A' n' tx' h => ⟨_, h.1, rfl, h.2⟩) rfl rfl rfl rfl (Nat.le_of_ble_eq_true rfl) hR2 rfl rfl ⟨Nat.zero_le _, Nat.zero_le _⟩ (fun v2 ρ2 g2 A2 n2 tx2 hv => ?_)
          obtain ⟨rfl, rfl, rfl, rfl, rfl, rfl, hrow2⟩ := hv
          refine v_istore_2 G (decAt dd_MD_run 77 rfl) (by decide) rfl ?_
          refine v_goto G 42 (decAt dd_MD_run 78 rfl) (by decide) ?_
          exact ih i2 σ2 fu1 _ A2 _ _ (by rw [hA31, hA32]; exact hrun) hfl hval rfl rfl hrow2 (fun k f h => by rw [c_up (fun z => h ⟨z.1, Or.inr (Or.inr z.2)⟩)]; exact hfg1 k f h) hfA1
        · skip
          have hev : 0 < ev := by
            rcases Nat.eq_zero_or_pos ev with z | z
            · exact absurd (by rw [z]; decide) c123
            · exact z
          rw [if_pos hev] at hrun
          simp only [Option.some.injEq, Prod.mk.injEq] at hrun
          obtain ⟨q1, q2, q3, q4, q5⟩ := hrun
          subst q1
          subst q2
          subst q3
          subst q4
          subst q5
          refine v_iload G (decAt dd_MD_run 72 rfl) rfl ?_
          exact v_iret G (decAt dd_MD_run 73 rfl) rfl (hpost _ _ ⟨hval, rfl, hfg1, hA31, hA32, hfA1⟩)
      · skip
        refine v_iconst G 1 (decAt dd_MD_run 57 rfl) (by decide) ?_
        refine v_goto G 104 (decAt dd_MD_run 58 rfl) (by decide) ?_
        refine v_isub G (decAt dd_MD_run 60 rfl) ?_
        have h15 := ne 15 (by omega) c96
        have hf0 : 0 < fu := Nat.pos_of_ne_zero fun z => hnf ⟨h15, z⟩
        refine v_ri (y := nI fu1) (by rw [← hfu1, if_pos h15]; obtain ⟨f2, rfl⟩ : ∃ f2, fu = f2 + 1 := ⟨fu - 1, by omega⟩; exact nI_pred f2) ?_
        clear c96 h15 hf0
        refine v_puti G (decAt dd_MD_run 61 rfl) f_MD_103 rfl rfl rfl ?_
        refine v_aload_n G (decAt dd_MD_run 62 rfl) rfl ?_
        refine v_iload_n G (decAt dd_MD_run 63 rfl) rfl ?_
        refine v_aload_n G (decAt dd_MD_run 64 rfl) rfl ?_
        refine v_geta G (decAt dd_MD_run 65 rfl) f_MD_13 ?_
        refine v_iload_n G (decAt dd_MD_run 66 rfl) rfl ?_
        refine v_iald G 30 _ (decAt dd_MD_run 67 rfl) (by decide) rfl (by first | with_reducible rfl | with_reducible exact nI_1 _ | with_reducible exact nI_add _ _ | assumption) (by omega) ?_
        refine v_ri (y := k) hN2 ?_
        refine v_callVi0 G (As := [.int (nI M), .int k]) (P := fun v ρ' g' A' n' tx' => v = nI ev ∧ MdQ σ1 loc1 wrd1 ρ (up2 g 6 7 (nI fu1)) A n tx ρ' g' A' n' tx') (rm := ({ frames := 2, cells := 0, slots := 0, locals := 48 } : Room)) (decAt dd_MD_run 68 rfl) k_MD_109 (CW.mono (c_MD_does l hE hN3 hm ⟨hn1, hn2, hn3, hn4, hn5, hn6, hn7⟩ hh hl hrow) fun r ρ' g' A' n' tx' h => ⟨_, h.1, rfl, h.2⟩) rfl rfl rfl rfl (Nat.le_of_ble_eq_true rfl) hR1 rfl rfl ⟨Nat.zero_le _, Nat.zero_le _⟩ (fun v1 ρ1 g1 A1 n1 tx1 hv => ?_)
        obtain ⟨rfl, rfl, rfl, rfl, rfl, hrow1, hA31, hA32, hAo⟩ := hv
        have hfg1 : ∀ k f, ¬ (k = 6 ∧ (f = 6 ∨ f = 7 ∨ f = 11)) → up2 (up2 g 6 7 (nI fu1)) 6 11 (nI σ1.length) k f = g0 k f := fun k f h => by rw [c_up (fun z => h ⟨z.1, Or.inr (Or.inr z.2)⟩), c_up (fun z => h ⟨z.1, Or.inr (Or.inl z.2)⟩)]; exact hfg k f h
        have hfA1 : ∀ i, i ≠ 35 → i ≠ 31 → i ≠ 32 → A1 i = A0 i := fun i h1 h2 h3 => (hAo i h1 h2 h3).trans (hfA i h1 h2 h3)
        refine v_istore_4 G (decAt dd_MD_run 69 rfl) (by decide) rfl ?_
        refine v_iload G (decAt dd_MD_run 70 rfl) rfl ?_
        refine v_if_le G 129 (decAt dd_MD_run 71 rfl) (by decide) (fun c123 => ?_) (fun c123 => ?_)
        · skip
          have hevb : ev ≤ 3 := mdo_ev hm
          have hev : ev = 0 := by
            rcases Nat.eq_zero_or_pos ev with z | z
            · exact z
            · exact absurd c123 (nI_nle z (by omega))
          subst hev
          rw [if_neg (by omega)] at hrun
          cases hg : cgo cd i M k σ1 with
          | none => rw [hg] at hrun; cases hrun
          | some q =>
          obtain ⟨i2, σ2⟩ := q
          rw [hg] at hrun
          dsimp only at hrun
          refine v_aload_n G (decAt dd_MD_run 74 rfl) rfl ?_
          refine v_iload_n G (decAt dd_MD_run 75 rfl) rfl ?_
          refine v_callVi0 G (As := [.int (nI i)]) (P := fun v ρ' g' A' n' tx' => v = nI i2 ∧ ρ' = ρ1 ∧ g' = up2 (up2 (up2 g 6 7 (nI fu1)) 6 11 (nI σ1.length)) 6 11 (nI σ2.length) ∧ A' = A1 ∧ n' = n1 ∧ tx' = tx1 ∧ RowIs (A1 35) σ2) (rm := ({ frames := 1, cells := 0, slots := 0, locals := 22 } : Room)) (decAt dd_MD_run 76 rfl) k_MD_112 (CW.mono (c_MD_goesOn l hE (cd := cd) (by rw [hfA1 29 (by decide) (by decide) (by decide), hfA1 30 (by decide) (by decide) (by decide)]; exact hC0) hi hg ⟨hn1, hn2, hn3, hn4, hn5, hn6, hn7⟩ ((hfg1 6 1 (by decide)).trans hs0) hsz rfl (mdo_len hm hl) hrow1) fun r ρ' g' A' n' tx' h => ⟨_, h.1, rfl, h.2⟩) rfl rfl rfl rfl (Nat.le_of_ble_eq_true rfl) hR2 rfl rfl ⟨Nat.zero_le _, Nat.zero_le _⟩ (fun v2 ρ2 g2 A2 n2 tx2 hv => ?_)
          obtain ⟨rfl, rfl, rfl, rfl, rfl, rfl, hrow2⟩ := hv
          refine v_istore_2 G (decAt dd_MD_run 77 rfl) (by decide) rfl ?_
          refine v_goto G 42 (decAt dd_MD_run 78 rfl) (by decide) ?_
          exact ih i2 σ2 fu1 _ A2 _ _ (by rw [hA31, hA32]; exact hrun) hfl hval rfl rfl hrow2 (fun k f h => by rw [c_up (fun z => h ⟨z.1, Or.inr (Or.inr z.2)⟩)]; exact hfg1 k f h) hfA1
        · skip
          have hev : 0 < ev := by
            rcases Nat.eq_zero_or_pos ev with z | z
            · exact absurd (by rw [z]; decide) c123
            · exact z
          rw [if_pos hev] at hrun
          simp only [Option.some.injEq, Prod.mk.injEq] at hrun
          obtain ⟨q1, q2, q3, q4, q5⟩ := hrun
          subst q1
          subst q2
          subst q3
          subst q4
          subst q5
          refine v_iload G (decAt dd_MD_run 72 rfl) rfl ?_
          exact v_iret G (decAt dd_MD_run 73 rfl) rfl (hpost _ _ ⟨hval, rfl, hfg1, hA31, hA32, hfA1⟩)
    refine v_aload_n G (decAt dd_MD_run 24 rfl) rfl ?_
    refine v_geta G (decAt dd_MD_run 25 rfl) f_MD_7 ?_
    refine v_iload_n G (decAt dd_MD_run 26 rfl) rfl ?_
    refine v_iald G 29 _ (decAt dd_MD_run 27 rfl) (by decide) rfl (by first | with_reducible rfl | with_reducible exact nI_1 _ | with_reducible exact nI_add _ _ | assumption) (by omega) ?_
    refine v_ri (y := nI M) hN1 ?_
    refine v_istore_3 G (decAt dd_MD_run 28 rfl) (by decide) rfl ?_
    refine v_iload_n G (decAt dd_MD_run 29 rfl) rfl ?_
    refine v_bipush G 16 (decAt dd_MD_run 30 rfl) (by decide) ?_
    refine v_icmp_ne G 65 (decAt dd_MD_run 31 rfl) (by decide) (fun c52 => ?_) (fun c52 => ?_)
    · skip
      have h16 : ¬ M = 16 := fun z => c52 (by rw [z]; rfl)
      rw [if_neg h16] at hrun
      refine v_iload_n G (decAt dd_MD_run 38 rfl) rfl ?_
      refine v_bipush G 17 (decAt dd_MD_run 39 rfl) (by decide) ?_
      refine v_icmp_ne G 73 (decAt dd_MD_run 40 rfl) (by decide) (fun c68 => ?_) (fun c68 => ?_)
      · skip
        have h17 : ¬ M = 17 := fun z => c68 (by rw [z]; rfl)
        rw [if_neg h17] at hrun
        refine v_iload_n G (decAt dd_MD_run 43 rfl) rfl ?_
        refine v_bipush G 15 (decAt dd_MD_run 44 rfl) (by decide) ?_
        refine v_icmp_ne G 88 (decAt dd_MD_run 45 rfl) (by decide) (fun c76 => ?_) (fun c76 => ?_)
        · skip
          have hnf : ¬ (M = 15 ∧ fu = 0) := fun z => by first | exact c76 (by rw [z.1]; rfl) | exact c83 (by rw [z.2]; rfl)
          rw [if_neg hnf] at hrun
          exact J hnf hrun
        · skip
          refine v_aload_n G (decAt dd_MD_run 46 rfl) rfl ?_
          refine v_geti G (decAt dd_MD_run 47 rfl) f_MD_103 ?_
          refine v_ri (y := (nI fu)) hfuel ?_
          refine v_if_ne G 88 (decAt dd_MD_run 48 rfl) (by decide) (fun c83 => ?_) (fun c83 => ?_)
          · skip
            have hnf : ¬ (M = 15 ∧ fu = 0) := fun z => by first | exact c76 (by rw [z.1]; rfl) | exact c83 (by rw [z.2]; rfl)
            rw [if_neg hnf] at hrun
            exact J hnf hrun
          · skip
            have h15 := ne 15 (by omega) c76
            subst h15
            have hfz : fu = 0 := (nI_eq (a := fu) (b := 0) (by omega) (by omega)).mp c83
            rw [if_pos ⟨rfl, hfz⟩] at hrun
            simp only [Option.some.injEq, Prod.mk.injEq] at hrun
            obtain ⟨q1, q2, q3, q4, q5⟩ := hrun
            subst q1
            subst q2
            subst q3
            subst q4
            subst q5
            refine v_iconst G 1 (decAt dd_MD_run 49 rfl) (by decide) ?_
            exact v_iret G (decAt dd_MD_run 50 rfl) rfl (hpost _ _ ⟨hval, hfuel, hfg, rfl, rfl, hfA⟩)
      · skip
        have h17 := ne 17 (by omega) c68
        subst h17
        rw [if_pos rfl] at hrun
        simp only [Option.some.injEq, Prod.mk.injEq] at hrun
        obtain ⟨q1, q2, q3, q4, q5⟩ := hrun
        subst q1
        subst q2
        subst q3
        subst q4
        subst q5
        refine v_iconst G 4 (decAt dd_MD_run 41 rfl) (by decide) ?_
        exact v_iret G (decAt dd_MD_run 42 rfl) rfl (hpost _ _ ⟨hval, hfuel, hfg, rfl, rfl, hfA⟩)
    · skip
      have h16 := ne 16 (by omega) c52
      subst h16
      rw [if_pos rfl] at hrun
      rcases σ with _ | ⟨v, r⟩
      · cases hrun
      have hrun : some (0, v, A 31, A 32, fu) = some (how, val, loc', wrd', fu') := hrun
      simp only [Option.some.injEq, Prod.mk.injEq] at hrun
      obtain ⟨q1, q2, q3, q4, q5⟩ := hrun
      subst q1
      subst q2
      subst q3
      subst q4
      subst q5
      have hl0 : r.length + 1 ≤ 61 := hl
      refine v_aload_n G (decAt dd_MD_run 32 rfl) rfl ?_
      refine v_aload_n G (decAt dd_MD_run 33 rfl) rfl ?_
      refine v_callVik G (As := []) (decAt dd_MD_run 34 rfl) k_MD_83 (c_MD_pop l hE (h := r.length) ⟨hn1, hn2, hn3, hn4, hn5, hn6, hn7⟩ hh (by omega)) rfl rfl rfl rfl (Nat.le_of_ble_eq_true rfl) hR3 rfl rfl ⟨Nat.zero_le _, Nat.zero_le _⟩ ?_
      refine v_ri (y := v) hrow.1 ?_
      refine v_puti G (decAt dd_MD_run 35 rfl) f_MD_106 rfl rfl rfl ?_
      refine v_iconst G 0 (decAt dd_MD_run 36 rfl) (by decide) ?_
      exact v_iret G (decAt dd_MD_run 37 rfl) rfl (hpost _ _ ⟨rfl, hfuel, fun k f h => by rw [c_up (fun z => h ⟨z.1, Or.inl z.2⟩), c_up (fun z => h ⟨z.1, Or.inr (Or.inr z.2)⟩)]; exact hfg k f h, rfl, rfl, hfA⟩)
