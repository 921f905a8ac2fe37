/-! the class: heights along the ways -/
section VS
variable {E : Bs} {p : Program} {l : Launch} {e : Env} {R : Room} {s : State} {m : MethodId} {args : Array Value} {below : List Frame} {meth : Method} {c : Code} {cc : ByteArray} {own : String} {nL : Nat} {ret : Option FieldType} {cells slots : Nat} {Q : State → Prop} {pc : Nat} {L : List (Option Value)} {S : List Value} {DO DA : Nat → Prop} {ρ : Nat → Nat} {g A : Nat → Nat → Int32} {n : Nat → Nat} {tx : Value}
theorem gZ (G : Gd E p s m args meth c cc own nL ret) {C nm d : String} {v : Value} (h : va_Z C nm d v (old E) E.S E.S.heap) : va_Z C nm d v E.F s s.heap := ((h.moved (gW G).alike).kept (fun a ha _ => (gB G).1 a ha)).narrow (gH G).2.2.1
theorem gT (G : Gd E p s m args meth c cc own nL ret) {ty : FieldType} {t N : Nat} {f : Nat → Value} (h : va_T ty t N f (old E) E.S E.S.heap) : va_T ty t N f E.F s s.heap := ((h.moved (gW G).alike).kept (fun a ha _ => (gB G).1 a ha)).narrow (gH G).2.2.1
theorem v_gets (G : Gd E p s m args meth c cc own nL ret) {idx : Nat} (i : Nat) (d : decode cc pc = .ok (.getstatic idx, 3)) (hi : i < 3) (hw : Cond.fieldLink own idx "RowCode" (snm i) "[I" ∈ lw_tbl) (kk : V p l e R s m args below meth c nL (Sy E DO DA s.heap ρ g A n tx) cells slots Q (pc + 3) L (.ref (E.st i) :: S)) : V p l e R s m args below meth c nL (Sy E DO DA s.heap ρ g A n tx) cells slots Q pc L S :=
  fun H locs ls hX hl => va_gets G.1 G.2.1 (gZ G ((gH G).2.2.2.1.1 i hi).1) hX.2 (gown G) (gw G hw rfl) (fun _ h => h) d (kk H locs ls hX hl)
theorem v_stld (G : Gd E p s m args meth c cc own nL ret) (i j : Nat) {x : Int32} (d : decode cc pc = .ok (.iaload, 1)) (hi : i < 3) (hj : x = nI j) (hlt : j < 21) (kk : V p l e R s m args below meth c nL (Sy E DO DA s.heap ρ g A n tx) cells slots Q (pc + 1) L (.int (stv i j) :: S)) : V p l e R s m args below meth c nL (Sy E DO DA s.heap ρ g A n tx) cells slots Q pc L (.int x :: .ref (E.st i) :: S) := by
  subst hj
  exact fun H locs ls hX hl => va_ti G.1 G.2.1 (gT G ((gH G).2.2.2.1.1 i hi).2) hX.2 (vp_in_nI hlt (by omega)) (v := .int (stv i j)) (by rw [nI_clamp (by omega)]) d (kk H locs ls hX hl)
end VS
def cntm (D : Nat → Int32) (n : Nat) : Nat := cnt (fun j => if D j = -1 then 0 else 1) n
theorem cntm_up {D : Nat → Int32} {t n : Nat} {v : Int32} (hD : D t = -1) (hv : ¬ v = -1) (ht : t < n) : cntm (va_up D t v) n + 1 = cntm D n := by
  have h := cnt_up (f := fun j => if D j = -1 then (0 : Int32) else 1) (v := 1) (by decide) ht (by simp [hD])
  have e : (fun j => if va_up D t v j = -1 then (0 : Int32) else 1) = va_up (fun j => if D j = -1 then (0 : Int32) else 1) t 1 := by
    funext j
    by_cases q : j = t
    · subst q; rw [va_up_self, va_up_self, if_neg hv]
    · rw [va_up_ne _ _ q, va_up_ne _ _ q]
  unfold cntm
  rw [e]
  exact h
def WI (cd : Cod) (D ws wd : Nat → Int32) (w : Nat) : Prop := EvA cd D ∧ w + cntm D cd.length ≤ cd.length ∧ ∀ j, j < w → ∃ i h : Nat, i < cd.length ∧ ws j = nI i ∧ wd j = nI h ∧ h ≤ 60 ∧ D i = nI h
def CmQ (cd : Cod) (t : Nat) (v : Int) (D ws wd : Nat → Int32) (w : Nat) (f : Int32) (D' ws' wd' : Nat → Int32) (w' : Nat) (f' : Int32) : Prop := WI cd D' ws' wd' w' ∧ HLe D D' ∧ w ≤ w' ∧ (∀ j, j < w → ws' j = ws j) ∧ 2 * cntm D' cd.length + w' ≤ 2 * cntm D cd.length + w ∧ (∀ i, i < cd.length → D i = -1 → D' i ≠ -1 → ∃ j, j < w' ∧ ws' j = nI i) ∧ ((f' = f ∧ t < cd.length ∧ ∃ h2 : Nat, v = (h2 : Int) ∧ h2 ≤ 60 ∧ D' t = nI h2) ∨ (f' = 1 ∧ noTyp cd))
theorem noTyp_neg {cd : Cod} {t : Nat} {h : Int} (hr : Reach cd t h) (hb : h < 0) : noTyp cd := by
  rintro ⟨ty, hT⟩
  obtain ⟨h2, e, -⟩ := hT.reach hr
  omega
theorem EvA.neg {cd : Cod} {D : Nat → Int32} (h : EvA cd D) {t : Nat} (ht : t < cd.length) (hn : D t < 0) : D t = -1 := by
  by_cases z : D t = -1
  · exact z
  · obtain ⟨h0, h1, h2, -⟩ := h t ht z
    rw [h2] at hn
    exact absurd hn (nI_pos (by omega))
theorem CmQ.stay {cd : Cod} {t : Nat} {v : Int} {D ws wd : Nat → Int32} {w : Nat} {f f' : Int32} (hW : WI cd D ws wd w) (h : (f' = f ∧ t < cd.length ∧ ∃ h2 : Nat, v = (h2 : Int) ∧ h2 ≤ 60 ∧ D t = nI h2) ∨ (f' = 1 ∧ noTyp cd)) : CmQ cd t v D ws wd w f D ws wd w f' :=
  ⟨hW, HLe.rf _, Nat.le_refl _, fun _ _ => rfl, Nat.le_refl _, fun i _ h1 h2 => absurd h1 h2, h⟩
theorem CmQ.put {cd : Cod} {t : Nat} {v : Int} {D ws wd : Nat → Int32} {w : Nat} {f x : Int32} (hW : WI cd D ws wd w) (ht : t < cd.length) (hD : D t = -1) (hx : x.toInt = v) (h0 : 0 ≤ v) (h60 : v ≤ 60) (hr : Reach cd t v) : CmQ cd t v D ws wd w f (va_up D t x) (va_up ws w (nI t)) (va_up wd w x) (w + 1) f := by
  obtain ⟨h1, h2, h3⟩ := hW
  have ex := as_nI hx h0 h60
  have hxn : ¬ x = -1 := by rw [ex]; exact nI_m1 (by omega)
  have hc := cntm_up hD hxn ht
  refine ⟨⟨fun i hi hne => ?_, by omega, fun j hj => ?_⟩, HLe.up (Or.inl hD), by omega, fun j hj => va_up_ne _ _ (by omega), by omega, fun i hi hi1 hi2 => ?_, Or.inl ⟨rfl, ht, v.toNat, by omega, by omega, by rw [va_up_self]; exact ex⟩⟩
  · by_cases e : i = t
    · subst e
      rw [va_up_self]
      exact ⟨v.toNat, by omega, ex, by rw [show ((v.toNat : Nat) : Int) = v by omega]; exact hr⟩
    · rw [va_up_ne _ _ e] at hne ⊢; exact h1 i hi hne
  · by_cases e : j = w
    · subst e
      exact ⟨t, v.toNat, ht, va_up_self _ _ _, by rw [va_up_self]; exact ex, by omega, by rw [va_up_self]; exact ex⟩
    · obtain ⟨i, h, q1, q2, q3, q4, q5⟩ := h3 j (by omega)
      refine ⟨i, h, q1, by rw [va_up_ne _ _ e]; exact q2, by rw [va_up_ne _ _ e]; exact q3, q4, ?_⟩
      rw [va_up_ne _ _ (fun z => by rw [z, hD] at q5; exact nI_m1 (by omega) q5.symm)]
      exact q5
  · by_cases e : i = t
    · subst e; exact ⟨w, by omega, va_up_self _ _ _⟩
    · rw [va_up_ne _ _ e] at hi2; exact absurd hi1 hi2
def WLx (cd : Cod) (i0 : Nat) (D ws : Nat → Int32) (w : Nat) : Prop := ∀ i, i < cd.length → D i ≠ -1 → i = i0 ∨ (∃ j, j < w ∧ ws j = nI i) ∨ Clo cd D i
def WL (cd : Cod) (D ws : Nat → Int32) (w : Nat) : Prop := ∀ i, i < cd.length → D i ≠ -1 → (∃ j, j < w ∧ ws j = nI i) ∨ Clo cd D i
theorem WL.pop {cd : Cod} {D ws : Nat → Int32} {w i0 : Nat} (hl : cd.length ≤ 400) (h0 : i0 < cd.length) (h : WL cd D ws (w + 1)) (hw : ws w = nI i0) : WLx cd i0 D ws w := by
  intro i hi hne
  rcases h i hi hne with ⟨j, h1, h2⟩ | h1
  · by_cases e : j = w
    · subst e
      exact Or.inl ((nI_eq (by omega) (by omega)).mp (h2.symm.trans hw))
    · exact Or.inr (Or.inl ⟨j, by omega, h2⟩)
  · exact Or.inr (Or.inr h1)
theorem WLx.comes {cd : Cod} {t i0 : Nat} {v : Int} {D ws wd : Nat → Int32} {w : Nat} {f : Int32} {D' ws' wd' : Nat → Int32} {w' : Nat} {f' : Int32} (h : WLx cd i0 D ws w) (hq : CmQ cd t v D ws wd w f D' ws' wd' w' f') : WLx cd i0 D' ws' w' := by
  obtain ⟨-, hle, h1, h2, -, h4, -⟩ := hq
  intro i hi hne
  by_cases z : D i = -1
  · exact Or.inr (Or.inl (h4 i hi z hne))
  · rcases h i hi z with q | ⟨j, q1, q2⟩ | q
    · exact Or.inl q
    · exact Or.inr (Or.inl ⟨j, by omega, (h2 j q1).trans q2⟩)
    · exact Or.inr (Or.inr (q.mono hle))
theorem WLx.fin {cd : Cod} {i0 : Nat} {D ws : Nat → Int32} {w : Nat} (h : WLx cd i0 D ws w) (hc : Clo cd D i0) : WL cd D ws w := by
  intro i hi hne
  rcases h i hi hne with rfl | q | q
  · exact Or.inr hc
  · exact Or.inl q
  · exact Or.inr q
theorem up2_wf (g : Nat → Nat → Int32) (a b x y : Int32) : up2 (up2 (up2 (up2 g 0 12 a) 0 13 b) 0 12 x) 0 13 y = up2 (up2 g 0 12 x) 0 13 y := by
  funext i j
  by_cases h1 : i = 0 ∧ j = 12 <;> by_cases h2 : i = 0 ∧ j = 13 <;> simp [up2, h1, h2]
theorem up2_wf2 (g : Nat → Nat → Int32) (a b x : Int32) : up2 (up2 (up2 g 0 12 a) 0 13 b) 0 12 x = up2 (up2 g 0 12 x) 0 13 b := by
  funext i j
  by_cases h1 : i = 0 ∧ j = 12 <;> by_cases h2 : i = 0 ∧ j = 13 <;> simp [up2, h1, h2] <;> omega

theorem noTyp_conf {cd : Cod} {D : Nat → Int32} {t : Nat} {v : Int} {x : Int32} (hA : EvA cd D) (ht : t < cd.length) (hr : Reach cd t v) (hx : x.toInt = v) (h1 : ¬ D t < 0) (h2 : ¬ D t = x) : noTyp cd := by
  have hne : D t ≠ -1 := fun z => h1 (by rw [z]; decide)
  obtain ⟨h, q1, q2, q3⟩ := hA t ht hne
  refine noTyp_two hr q3 (fun z => h2 ?_)
  apply Int32.toInt_inj.mp
  rw [q2, nI_toInt (by omega), hx, z]

set_option maxHeartbeats 4000000 in
theorem c_RC_comes (l : Launch) {E : Bs} (hE : Hb E) {ρ : Nat → Nat} {g A : Nat → Nat → Int32} {n : Nat → Nat} {tx : Value} {cd : Cod} {t w : Nat} {x : Int32} {v : Int} (hn : RN n) (hs : g 0 2 = nI cd.length) (hsz : cd.length ≤ 400) (ht : t ≤ cd.length) (hx : x.toInt = v) (hr : Reach cd t v) (hW : WI cd (A 3) (A 4) (A 5) w) (hw : g 0 12 = nI w) : CW l E DC AC y_RC_comes b_RC_comes 3 none ({ frames := 0, cells := 0, slots := 0, locals := 0 } : Room) [.ref (E.o 0), .int (nI t), .int x] ρ g A n tx (fun r ρ' g' A' n' tx' => r = none ∧ ∃ w' f', CmQ cd t v (A 3) (A 4) (A 5) w (g 0 13) (A' 3) (A' 4) (A' 5) w' f' ∧ ρ' = ρ ∧ g' = up2 (up2 g 0 12 (nI w')) 0 13 f' ∧ n' = n ∧ tx' = tx ∧ ∀ i, i ≠ 3 → i ≠ 4 → i ≠ 5 → A' i = A i) := by
  obtain ⟨hn0, hn1, hn2, hn3, hn4, hn5, hn6, hn7, hn8, hn9⟩ := hn
  refine CW.start [some (.ref (E.o 0)), some (.int (nI t)), some (.int x)] hE (by decide) (Nat.le_of_ble_eq_true rfl) rfl ?_
  intro p e s m args below meth c G
  have hwl : w ≤ 400 := by have := hW.2.1; omega
  refine v_iload_n G (decAt dd_RC_comes 0 rfl) rfl ?_
  refine v_aload_n G (decAt dd_RC_comes 1 rfl) rfl ?_
  refine v_geti G (decAt dd_RC_comes 2 rfl) f_RC_75 ?_
  refine v_ri (y := (nI cd.length)) hs ?_
  refine v_icmp_eq G 37 (decAt dd_RC_comes 3 rfl) (by decide) (fun c5 => ?_) (fun c5 => ?_)
  · skip
    refine v_aload_n G (decAt dd_RC_comes 20 rfl) rfl ?_
    refine v_iconst G 1 (decAt dd_RC_comes 21 rfl) (by decide) ?_
    refine v_puti G (decAt dd_RC_comes 22 rfl) f_RC_87 rfl rfl rfl ?_
    exact v_vret G (decAt dd_RC_comes 23 rfl) rfl ⟨rfl, w, 1, CmQ.stay hW (Or.inr ⟨rfl, by first
      | exact noTyp_out hr (Or.inl (by have := (nI_eq (a := t) (b := cd.length) (by omega) (by omega)).mp c5; omega))
      | exact noTyp_neg hr (by have h : x.toInt < 0 := Int32.lt_iff_toInt_lt.mp c9; omega)
      | exact noTyp_out hr (Or.inr (by have h : (60 : Int) < x.toInt := Int32.lt_iff_toInt_lt.mp c15; omega))
      | exact noTyp_conf hW.1 htl hr hx c24 c34⟩), rfl, (by rw [up2_id hw]), rfl, rfl, fun _ _ _ _ => rfl⟩
  · skip
    have htl : t < cd.length := Nat.lt_of_le_of_ne ht (fun z => c5 (by rw [z]))
    refine v_iload_n G (decAt dd_RC_comes 4 rfl) rfl ?_
    refine v_if_lt G 37 (decAt dd_RC_comes 5 rfl) (by decide) (fun c9 => ?_) (fun c9 => ?_)
    · skip
      refine v_aload_n G (decAt dd_RC_comes 20 rfl) rfl ?_
      refine v_iconst G 1 (decAt dd_RC_comes 21 rfl) (by decide) ?_
      refine v_puti G (decAt dd_RC_comes 22 rfl) f_RC_87 rfl rfl rfl ?_
      exact v_vret G (decAt dd_RC_comes 23 rfl) rfl ⟨rfl, w, 1, CmQ.stay hW (Or.inr ⟨rfl, by first
        | exact noTyp_out hr (Or.inl (by have := (nI_eq (a := t) (b := cd.length) (by omega) (by omega)).mp c5; omega))
        | exact noTyp_neg hr (by have h : x.toInt < 0 := Int32.lt_iff_toInt_lt.mp c9; omega)
        | exact noTyp_out hr (Or.inr (by have h : (60 : Int) < x.toInt := Int32.lt_iff_toInt_lt.mp c15; omega))
        | exact noTyp_conf hW.1 htl hr hx c24 c34⟩), rfl, (by rw [up2_id hw]), rfl, rfl, fun _ _ _ _ => rfl⟩
    · skip
      refine v_iload_n G (decAt dd_RC_comes 6 rfl) rfl ?_
      refine v_bipush G 60 (decAt dd_RC_comes 7 rfl) (by decide) ?_
      refine v_icmp_gt G 37 (decAt dd_RC_comes 8 rfl) (by decide) (fun c15 => ?_) (fun c15 => ?_)
      · skip
        refine v_aload_n G (decAt dd_RC_comes 20 rfl) rfl ?_
        refine v_iconst G 1 (decAt dd_RC_comes 21 rfl) (by decide) ?_
        refine v_puti G (decAt dd_RC_comes 22 rfl) f_RC_87 rfl rfl rfl ?_
        exact v_vret G (decAt dd_RC_comes 23 rfl) rfl ⟨rfl, w, 1, CmQ.stay hW (Or.inr ⟨rfl, by first
          | exact noTyp_out hr (Or.inl (by have := (nI_eq (a := t) (b := cd.length) (by omega) (by omega)).mp c5; omega))
          | exact noTyp_neg hr (by have h : x.toInt < 0 := Int32.lt_iff_toInt_lt.mp c9; omega)
          | exact noTyp_out hr (Or.inr (by have h : (60 : Int) < x.toInt := Int32.lt_iff_toInt_lt.mp c15; omega))
          | exact noTyp_conf hW.1 htl hr hx c24 c34⟩), rfl, (by rw [up2_id hw]), rfl, rfl, fun _ _ _ _ => rfl⟩
      · skip
        refine v_aload_n G (decAt dd_RC_comes 9 rfl) rfl ?_
        refine v_geta G (decAt dd_RC_comes 10 rfl) f_RC_51 ?_
        refine v_iload_n G (decAt dd_RC_comes 11 rfl) rfl ?_
        refine v_iald G 3 _ (decAt dd_RC_comes 12 rfl) (by decide) rfl (by first | with_reducible rfl | with_reducible exact nI_1 _ | with_reducible exact nI_add _ _ | assumption) (by omega) ?_
        refine v_if_lt G 43 (decAt dd_RC_comes 13 rfl) (by decide) (fun c24 => ?_) (fun c24 => ?_)
        · skip
          refine v_aload_n G (decAt dd_RC_comes 24 rfl) rfl ?_
          refine v_geta G (decAt dd_RC_comes 25 rfl) f_RC_51 ?_
          refine v_iload_n G (decAt dd_RC_comes 26 rfl) rfl ?_
          refine v_iald G 3 _ (decAt dd_RC_comes 27 rfl) (by decide) rfl (by first | with_reducible rfl | with_reducible exact nI_1 _ | with_reducible exact nI_add _ _ | assumption) (by omega) ?_
          refine v_iload_n G (decAt dd_RC_comes 28 rfl) rfl ?_
          refine v_icmp_ne G 54 (decAt dd_RC_comes 29 rfl) (by decide) (fun c50 => ?_) (fun c50 => ?_)
          · skip
            refine v_aload_n G (decAt dd_RC_comes 31 rfl) rfl ?_
            refine v_geta G (decAt dd_RC_comes 32 rfl) f_RC_51 ?_
            refine v_iload_n G (decAt dd_RC_comes 33 rfl) rfl ?_
            refine v_iload_n G (decAt dd_RC_comes 34 rfl) rfl ?_
            refine v_iast G 3 _ (decAt dd_RC_comes 35 rfl) (by decide) rfl (by first | with_reducible rfl | with_reducible exact nI_1 _ | with_reducible exact nI_add _ _ | assumption) (by omega) ?_
            refine v_aload_n G (decAt dd_RC_comes 36 rfl) rfl ?_
            refine v_geta G (decAt dd_RC_comes 37 rfl) f_RC_54 ?_
            refine v_aload_n G (decAt dd_RC_comes 38 rfl) rfl ?_
            refine v_geti G (decAt dd_RC_comes 39 rfl) f_RC_90 ?_
            refine v_ri (y := (nI w)) hw ?_
            refine v_iload_n G (decAt dd_RC_comes 40 rfl) rfl ?_
            refine v_iast G 4 _ (decAt dd_RC_comes 41 rfl) (by decide) rfl (by first | with_reducible rfl | with_reducible exact nI_1 _ | with_reducible exact nI_add _ _ | assumption) (by omega) ?_
            refine v_aload_n G (decAt dd_RC_comes 42 rfl) rfl ?_
            refine v_geta G (decAt dd_RC_comes 43 rfl) f_RC_57 ?_
            refine v_aload_n G (decAt dd_RC_comes 44 rfl) rfl ?_
            refine v_geti G (decAt dd_RC_comes 45 rfl) f_RC_90 ?_
            refine v_ri (y := (nI w)) hw ?_
            refine v_iload_n G (decAt dd_RC_comes 46 rfl) rfl ?_
            refine v_iast G 5 _ (decAt dd_RC_comes 47 rfl) (by decide) rfl (by first | with_reducible rfl | with_reducible exact nI_1 _ | with_reducible exact nI_add _ _ | assumption) (by omega) ?_
            refine v_aload_n G (decAt dd_RC_comes 48 rfl) rfl ?_
            refine v_dup G (decAt dd_RC_comes 49 rfl) rfl ?_
            refine v_geti G (decAt dd_RC_comes 50 rfl) f_RC_90 ?_
            refine v_ri (y := (nI w)) hw ?_
            refine v_iconst G 1 (decAt dd_RC_comes 51 rfl) (by decide) ?_
            refine v_iadd G (decAt dd_RC_comes 52 rfl) ?_
            refine v_ri (y := (nI (w + 1))) (nI_1 w) ?_
            refine v_puti G (decAt dd_RC_comes 53 rfl) f_RC_90 rfl rfl rfl ?_
            first | exact absurd c34 c50 | exact v_vret G (decAt dd_RC_comes 54 rfl) rfl ⟨rfl, w + 1, g 0 13, CmQ.put hW htl (hW.1.neg htl c24) hx (by have h : ¬ x.toInt < 0 := fun z => c9 (Int32.lt_iff_toInt_lt.mpr z); omega) (by have h : ¬ (60 : Int) < x.toInt := fun z => c15 (Int32.lt_iff_toInt_lt.mpr z); omega) hr, rfl, (up2_id rfl).symm, rfl, rfl, fun i h1 h2 h3 => by rw [va_up_ne _ _ h3, va_up_ne _ _ h2, va_up_ne _ _ h1]⟩
          · skip
            exact v_vret G (decAt dd_RC_comes 30 rfl) rfl ⟨rfl, w, g 0 13, CmQ.stay hW (Or.inl ⟨rfl, htl, v.toNat, by have h : ¬ x.toInt < 0 := fun z => c9 (Int32.lt_iff_toInt_lt.mpr z); omega, by have h : ¬ (60 : Int) < x.toInt := fun z => c15 (Int32.lt_iff_toInt_lt.mpr z); omega, by rw [c50]; exact as_nI hx (by have h : ¬ x.toInt < 0 := fun z => c9 (Int32.lt_iff_toInt_lt.mpr z); omega) (by have h : ¬ (60 : Int) < x.toInt := fun z => c15 (Int32.lt_iff_toInt_lt.mpr z); omega)⟩), rfl, (by rw [up2_id hw, up2_id rfl]), rfl, rfl, fun _ _ _ _ => rfl⟩
        · skip
          refine v_aload_n G (decAt dd_RC_comes 14 rfl) rfl ?_
          refine v_geta G (decAt dd_RC_comes 15 rfl) f_RC_51 ?_
          refine v_iload_n G (decAt dd_RC_comes 16 rfl) rfl ?_
          refine v_iald G 3 _ (decAt dd_RC_comes 17 rfl) (by decide) rfl (by first | with_reducible rfl | with_reducible exact nI_1 _ | with_reducible exact nI_add _ _ | assumption) (by omega) ?_
          refine v_iload_n G (decAt dd_RC_comes 18 rfl) rfl ?_
          refine v_icmp_eq G 43 (decAt dd_RC_comes 19 rfl) (by decide) (fun c34 => ?_) (fun c34 => ?_)
          · skip
            refine v_aload_n G (decAt dd_RC_comes 24 rfl) rfl ?_
            refine v_geta G (decAt dd_RC_comes 25 rfl) f_RC_51 ?_
            refine v_iload_n G (decAt dd_RC_comes 26 rfl) rfl ?_
            refine v_iald G 3 _ (decAt dd_RC_comes 27 rfl) (by decide) rfl (by first | with_reducible rfl | with_reducible exact nI_1 _ | with_reducible exact nI_add _ _ | assumption) (by omega) ?_
            refine v_iload_n G (decAt dd_RC_comes 28 rfl) rfl ?_
            refine v_icmp_ne G 54 (decAt dd_RC_comes 29 rfl) (by decide) (fun c50 => ?_) (fun c50 => ?_)
            · skip
              refine v_aload_n G (decAt dd_RC_comes 31 rfl) rfl ?_
              refine v_geta G (decAt dd_RC_comes 32 rfl) f_RC_51 ?_
              refine v_iload_n G (decAt dd_RC_comes 33 rfl) rfl ?_
              refine v_iload_n G (decAt dd_RC_comes 34 rfl) rfl ?_
              refine v_iast G 3 _ (decAt dd_RC_comes 35 rfl) (by decide) rfl (by first | with_reducible rfl | with_reducible exact nI_1 _ | with_reducible exact nI_add _ _ | assumption) (by omega) ?_
              refine v_aload_n G (decAt dd_RC_comes 36 rfl) rfl ?_
              refine v_geta G (decAt dd_RC_comes 37 rfl) f_RC_54 ?_
              refine v_aload_n G (decAt dd_RC_comes 38 rfl) rfl ?_
              refine v_geti G (decAt dd_RC_comes 39 rfl) f_RC_90 ?_
              refine v_ri (y := (nI w)) hw ?_
              refine v_iload_n G (decAt dd_RC_comes 40 rfl) rfl ?_
              refine v_iast G 4 _ (decAt dd_RC_comes 41 rfl) (by decide) rfl (by first | with_reducible rfl | with_reducible exact nI_1 _ | with_reducible exact nI_add _ _ | assumption) (by omega) ?_
              refine v_aload_n G (decAt dd_RC_comes 42 rfl) rfl ?_
              refine v_geta G (decAt dd_RC_comes 43 rfl) f_RC_57 ?_
              refine v_aload_n G (decAt dd_RC_comes 44 rfl) rfl ?_
              refine v_geti G (decAt dd_RC_comes 45 rfl) f_RC_90 ?_
              refine v_ri (y := (nI w)) hw ?_
              refine v_iload_n G (decAt dd_RC_comes 46 rfl) rfl ?_
              refine v_iast G 5 _ (decAt dd_RC_comes 47 rfl) (by decide) rfl (by first | with_reducible rfl | with_reducible exact nI_1 _ | with_reducible exact nI_add _ _ | assumption) (by omega) ?_
              refine v_aload_n G (decAt dd_RC_comes 48 rfl) rfl ?_
              refine v_dup G (decAt dd_RC_comes 49 rfl) rfl ?_
              refine v_geti G (decAt dd_RC_comes 50 rfl) f_RC_90 ?_
              refine v_ri (y := (nI w)) hw ?_
              refine v_iconst G 1 (decAt dd_RC_comes 51 rfl) (by decide) ?_
              refine v_iadd G (decAt dd_RC_comes 52 rfl) ?_
              refine v_ri (y := (nI (w + 1))) (nI_1 w) ?_
              refine v_puti G (decAt dd_RC_comes 53 rfl) f_RC_90 rfl rfl rfl ?_
              first | exact absurd c34 c50 | exact v_vret G (decAt dd_RC_comes 54 rfl) rfl ⟨rfl, w + 1, g 0 13, CmQ.put hW htl (hW.1.neg htl c24) hx (by have h : ¬ x.toInt < 0 := fun z => c9 (Int32.lt_iff_toInt_lt.mpr z); omega) (by have h : ¬ (60 : Int) < x.toInt := fun z => c15 (Int32.lt_iff_toInt_lt.mpr z); omega) hr, rfl, (up2_id rfl).symm, rfl, rfl, fun i h1 h2 h3 => by rw [va_up_ne _ _ h3, va_up_ne _ _ h2, va_up_ne _ _ h1]⟩
            · skip
              exact v_vret G (decAt dd_RC_comes 30 rfl) rfl ⟨rfl, w, g 0 13, CmQ.stay hW (Or.inl ⟨rfl, htl, v.toNat, by have h : ¬ x.toInt < 0 := fun z => c9 (Int32.lt_iff_toInt_lt.mpr z); omega, by have h : ¬ (60 : Int) < x.toInt := fun z => c15 (Int32.lt_iff_toInt_lt.mpr z); omega, by rw [c50]; exact as_nI hx (by have h : ¬ x.toInt < 0 := fun z => c9 (Int32.lt_iff_toInt_lt.mpr z); omega) (by have h : ¬ (60 : Int) < x.toInt := fun z => c15 (Int32.lt_iff_toInt_lt.mpr z); omega)⟩), rfl, (by rw [up2_id hw, up2_id rfl]), rfl, rfl, fun _ _ _ _ => rfl⟩
          · skip
            refine v_aload_n G (decAt dd_RC_comes 20 rfl) rfl ?_
            refine v_iconst G 1 (decAt dd_RC_comes 21 rfl) (by decide) ?_
            refine v_puti G (decAt dd_RC_comes 22 rfl) f_RC_87 rfl rfl rfl ?_
            exact v_vret G (decAt dd_RC_comes 23 rfl) rfl ⟨rfl, w, 1, CmQ.stay hW (Or.inr ⟨rfl, by first
              | exact noTyp_out hr (Or.inl (by have := (nI_eq (a := t) (b := cd.length) (by omega) (by omega)).mp c5; omega))
              | exact noTyp_neg hr (by have h : x.toInt < 0 := Int32.lt_iff_toInt_lt.mp c9; omega)
              | exact noTyp_out hr (Or.inr (by have h : (60 : Int) < x.toInt := Int32.lt_iff_toInt_lt.mp c15; omega))
              | exact noTyp_conf hW.1 htl hr hx c24 c34⟩), rfl, (by rw [up2_id hw]), rfl, rfl, fun _ _ _ _ => rfl⟩
set_option maxHeartbeats 4000000 in
theorem c_RC_areWays (l : Launch) {E : Bs} (hE : Hb E) {ρ : Nat → Nat} {g A : Nat → Nat → Int32} {n : Nat → Nat} {tx : Value} {cd : Cod} (hn : RN n) (hs : g 0 2 = nI cd.length) (hsz : cd.length ≤ 400) (hpos : 0 < cd.length) (hC : CodeIs cd (A 0) (A 1)) (hL : LabC cd) (hla : ∀ lab, lab < 100 → A 2 lab = oI (lbl cd (nI lab))) : CW l E DC AC y_RC_areWays b_RC_areWays 5 (some .boolean) ({ frames := 1, cells := 0, slots := 0, locals := 22 } : Room) [.ref (E.o 0)] ρ g A n tx (fun r ρ' g' A' n' tx' => ∃ b : Bool, r = some (.int (bI b)) ∧ (b = true → HtsOK cd (A' 3)) ∧ (b = false → noTyp cd) ∧ ρ' = ρ ∧ (∃ x y, g' = up2 (up2 g 0 12 x) 0 13 y) ∧ n' = n ∧ tx' = tx ∧ ∀ i, i ≠ 3 → i ≠ 4 → i ≠ 5 → A' i = A i) := by
  obtain ⟨hn0, hn1, hn2, hn3, hn4, hn5, hn6, hn7, hn8, hn9⟩ := hn
  refine CW.start [some (.ref (E.o 0)), none, none, none, none] hE (by decide) (Nat.le_of_ble_eq_true rfl) rfl ?_
  intro p e s m args below meth c G
  have J39 : ∀ (μ : Nat) (A1 : Nat → Nat → Int32) (w : Nat) (f : Int32) (x1 x2 x3 x4 : Option Value), (∀ i, i ≠ 3 → i ≠ 4 → i ≠ 5 → A1 i = A i) → WI cd (A1 3) (A1 4) (A1 5) w → (f = 0 → A1 3 0 = nI 0) → (f = 0 ∨ (f = 1 ∧ noTyp cd)) → (f = 0 → WL cd (A1 3) (A1 4) w) → 2 * cntm (A1 3) cd.length + w < μ → V p l e ({ frames := 1, cells := 0, slots := 0, locals := 22 } : Room) s m args below meth c 5 (Sy E DC AC s.heap ρ (up2 (up2 g 0 12 (nI w)) 0 13 f) A1 n tx) 0 0 (MQ below (QW E DC AC (fun r ρ' g' A' n' tx' => ∃ b : Bool, r = some (.int (bI b)) ∧ (b = true → HtsOK cd (A' 3)) ∧ (b = false → noTyp cd) ∧ ρ' = ρ ∧ (∃ x y, g' = up2 (up2 g 0 12 x) 0 13 y) ∧ n' = n ∧ tx' = tx ∧ ∀ i, i ≠ 3 → i ≠ 4 → i ≠ 5 → A' i = A i)) args s 0 0 E.F) 39 [some (.ref (E.o 0)), x1, x2, x3, x4] [] := by
    intro μ
    induction μ with
    | zero => intro A1 w f x1 x2 x3 x4 hfr hW h0 hf hWL hμ; exact absurd hμ (by omega)
    | succ μ ih =>
      intro A1 w f x1 x2 x3 x4 hfr hW h0 hf hWL hμ
      have hwl : w ≤ 400 := by have := hW.2.1; omega
      refine v_aload_n G (decAt dd_RC_areWays 23 rfl) rfl ?_
      refine v_geti G (decAt dd_RC_areWays 24 rfl) f_RC_90 ?_
      refine v_ri (y := nI w) rfl ?_
      refine v_if_le G 206 (decAt dd_RC_areWays 25 rfl) (by decide) (fun c43 => ?_) (fun c43 => ?_)
      · skip
        refine v_aload_n G (decAt dd_RC_areWays 121 rfl) rfl ?_
        refine v_geti G (decAt dd_RC_areWays 122 rfl) f_RC_87 ?_
        refine v_ri (y := f) rfl ?_
        refine v_if_ne G 217 (decAt dd_RC_areWays 123 rfl) (by decide) (fun c210 => ?_) (fun c210 => ?_)
        · refine v_iconst G 0 (decAt dd_RC_areWays 126 rfl) (by decide) ?_
          exact v_zret G (decAt dd_RC_areWays 127 rfl) rfl rfl ⟨false, rfl, fun q => (by cases q), fun _ => (hf.resolve_left c210).2, rfl, ⟨_, _, rfl⟩, rfl, rfl, hfr⟩
        · refine v_iconst G 1 (decAt dd_RC_areWays 124 rfl) (by decide) ?_
          refine v_goto G 218 (decAt dd_RC_areWays 125 rfl) (by decide) ?_
          have hw0 : w = 0 := by
            rcases Nat.eq_zero_or_pos w with z | z
            · exact z
            · exact absurd c43 (nI_nle z (by omega))
          exact v_zret G (decAt dd_RC_areWays 127 rfl) rfl rfl ⟨true, rfl, fun _ => ⟨h0 c210, hW.1, fun i hi hne => (hWL c210 i hi hne).resolve_left (fun z => by obtain ⟨j, h1, -⟩ := z; omega)⟩, fun q => (by cases q), rfl, ⟨_, _, rfl⟩, rfl, rfl, hfr⟩
      · skip
        refine v_aload_n G (decAt dd_RC_areWays 26 rfl) rfl ?_
        refine v_geti G (decAt dd_RC_areWays 27 rfl) f_RC_87 ?_
        refine v_ri (y := f) rfl ?_
        refine v_if_ne G 206 (decAt dd_RC_areWays 28 rfl) (by decide) (fun c50 => ?_) (fun c50 => ?_)
        · skip
          refine v_aload_n G (decAt dd_RC_areWays 121 rfl) rfl ?_
          refine v_geti G (decAt dd_RC_areWays 122 rfl) f_RC_87 ?_
          refine v_ri (y := f) rfl ?_
          refine v_if_ne G 217 (decAt dd_RC_areWays 123 rfl) (by decide) (fun c210 => ?_) (fun c210 => ?_)
          · refine v_iconst G 0 (decAt dd_RC_areWays 126 rfl) (by decide) ?_
            exact v_zret G (decAt dd_RC_areWays 127 rfl) rfl rfl ⟨false, rfl, fun q => (by cases q), fun _ => (hf.resolve_left c210).2, rfl, ⟨_, _, rfl⟩, rfl, rfl, hfr⟩
          · refine v_iconst G 1 (decAt dd_RC_areWays 124 rfl) (by decide) ?_
            refine v_goto G 218 (decAt dd_RC_areWays 125 rfl) (by decide) ?_
            exact absurd c210 c50
        · skip
          obtain ⟨w, rfl⟩ : ∃ w2, w = w2 + 1 := ⟨w - 1, by have : ¬ w = 0 := fun z => c43 (by rw [z]; decide); omega⟩
          subst c50
          obtain ⟨i, h, hil, hws, hwd, hh60, hD⟩ := hW.2.2 w (by omega)
          have hne : A1 3 i ≠ -1 := by rw [hD]; exact nI_m1 (by omega)
          have h0 := h0 rfl
          obtain ⟨h9, hb9, hD9, hreach⟩ := hW.1 i hil hne
          have hhe : h9 = h := (nI_eq (by omega) (by omega)).mp (hD9.symm.trans hD)
          subst hhe
          clear hD9
          have hx := (hWL rfl).pop hsz hil hws
          have hW : WI cd (A1 3) (A1 4) (A1 5) w := ⟨hW.1, by have := hW.2.1; omega, fun j hj => hW.2.2 j (by omega)⟩
          obtain ⟨⟨M, k⟩, hi0⟩ : ∃ q, cd[i]? = some q := ⟨cd[i], List.getElem?_eq_getElem hil⟩
          obtain ⟨hN1, hN2, hN3⟩ := hC i M k hi0
          have hi1 := List.getElem?_eq_some_iff.mp hi0
          refine v_aload_n G (decAt dd_RC_areWays 29 rfl) rfl ?_
          refine v_dup G (decAt dd_RC_areWays 30 rfl) rfl ?_
          refine v_geti G (decAt dd_RC_areWays 31 rfl) f_RC_90 ?_
          refine v_ri (y := (nI (w + 1))) rfl ?_
          refine v_iconst G 1 (decAt dd_RC_areWays 32 rfl) (by decide) ?_
          refine v_isub G (decAt dd_RC_areWays 33 rfl) ?_
          refine v_ri (y := nI w) (nI_pred w) ?_
          refine v_puti G (decAt dd_RC_areWays 34 rfl) f_RC_90 rfl rfl rfl ?_
          refine v_stg (up2_wf2 g _ _ _) ?_
          refine v_aload_n G (decAt dd_RC_areWays 35 rfl) rfl ?_
          refine v_geta G (decAt dd_RC_areWays 36 rfl) f_RC_54 ?_
          refine v_aload_n G (decAt dd_RC_areWays 37 rfl) rfl ?_
          refine v_geti G (decAt dd_RC_areWays 38 rfl) f_RC_90 ?_
          refine v_ri (y := nI w) rfl ?_
          refine v_iald G 4 w (decAt dd_RC_areWays 39 rfl) (by decide) rfl rfl (by omega) ?_
          refine v_ri (y := nI i) hws ?_
          refine v_istore_1 G (decAt dd_RC_areWays 40 rfl) (by decide) rfl ?_
          refine v_aload_n G (decAt dd_RC_areWays 41 rfl) rfl ?_
          refine v_geta G (decAt dd_RC_areWays 42 rfl) f_RC_57 ?_
          refine v_aload_n G (decAt dd_RC_areWays 43 rfl) rfl ?_
          refine v_geti G (decAt dd_RC_areWays 44 rfl) f_RC_90 ?_
          refine v_ri (y := nI w) rfl ?_
          refine v_iald G 5 w (decAt dd_RC_areWays 45 rfl) (by decide) rfl rfl (by omega) ?_
          refine v_ri (y := nI h9) hwd ?_
          refine v_istore_2 G (decAt dd_RC_areWays 46 rfl) (by decide) rfl ?_
          refine v_aload_n G (decAt dd_RC_areWays 47 rfl) rfl ?_
          refine v_geta G (decAt dd_RC_areWays 48 rfl) f_RC_13 ?_
          refine v_iload_n G (decAt dd_RC_areWays 49 rfl) rfl ?_
          refine v_iald G 0 _ (decAt dd_RC_areWays 50 rfl) (by decide) rfl (by first | with_reducible rfl | with_reducible exact nI_1 _ | with_reducible exact nI_add _ _ | assumption) (by omega) ?_
          refine v_ri (y := nI M) ((congrFun (hfr 0 (by decide) (by decide) (by decide)) i).trans hN1) ?_
          refine v_istore_3 G (decAt dd_RC_areWays 51 rfl) (by decide) rfl ?_
          refine v_iload_n G (decAt dd_RC_areWays 52 rfl) rfl ?_
          refine v_gets G 0 (decAt dd_RC_areWays 53 rfl) (by omega) tm_288 ?_
          refine v_iload_n G (decAt dd_RC_areWays 54 rfl) rfl ?_
          refine v_stld G 0 M (decAt dd_RC_areWays 55 rfl) (by omega) rfl (by omega) ?_
          refine v_icmp_ge G 101 (decAt dd_RC_areWays 56 rfl) (by decide) (fun c96 => ?_) (fun c96 => ?_)
          · skip
            have htk : tI M ≤ h9 := by have := Int32.le_iff_toInt_le.mp c96; rw [nI_toInt (by omega)] at this; exact this
            have htg := take_give M hN3
            refine v_iload_n G (decAt dd_RC_areWays 59 rfl) rfl ?_
            refine v_gets G 1 (decAt dd_RC_areWays 60 rfl) (by omega) tm_290 ?_
            refine v_iload_n G (decAt dd_RC_areWays 61 rfl) rfl ?_
            refine v_stld G 1 M (decAt dd_RC_areWays 62 rfl) (by omega) rfl (by omega) ?_
            refine v_iadd G (decAt dd_RC_areWays 63 rfl) ?_
            refine v_istore_4 G (decAt dd_RC_areWays 64 rfl) (by decide) rfl ?_
            refine v_L (L' := [some (.ref (E.o 0)), some (.int (nI i)), some (.int (nI h9)), some (.int (nI M)), some (.int (nI h9 + stv 1 M))]) (fun _ _ q => q) ?_
            refine v_iload_n G (decAt dd_RC_areWays 65 rfl) rfl ?_
            refine v_bipush G 18 (decAt dd_RC_areWays 66 rfl) (by decide) ?_
            refine v_icmp_ne G 147 (decAt dd_RC_areWays 67 rfl) (by decide) (fun c113 => ?_) (fun c113 => ?_)
            · skip
              have hM18 : ¬ M = 18 := fun z => c113 (by rw [z]; rfl)
              have JB : ∀ (A2 : Nat → Nat → Int32) (w2 : Nat) (f2 : Int32), (∀ i, i ≠ 3 → i ≠ 4 → i ≠ 5 → A2 i = A i) → WI cd (A2 3) (A2 4) (A2 5) w2 → A2 3 0 = nI 0 → (f2 = 0 ∨ (f2 = 1 ∧ noTyp cd)) → WLx cd i (A2 3) (A2 4) w2 → 2 * cntm (A2 3) cd.length + w2 < μ → HLe (A1 3) (A2 3) → (∀ t, nx1 cd i = some t → f2 = 0 → t < cd.length ∧ ∃ h2 : Nat, (h9 : Int) + gI M = h2 ∧ h2 ≤ 60 ∧ A2 3 t = nI h2) → V p l e ({ frames := 1, cells := 0, slots := 0, locals := 22 } : Room) s m args below meth c 5 (Sy E DC AC s.heap ρ (up2 (up2 g 0 12 (nI w2)) 0 13 f2) A2 n tx) 0 0 (MQ below (QW E DC AC (fun r ρ' g' A' n' tx' => ∃ b : Bool, r = some (.int (bI b)) ∧ (b = true → HtsOK cd (A' 3)) ∧ (b = false → noTyp cd) ∧ ρ' = ρ ∧ (∃ x y, g' = up2 (up2 g 0 12 x) 0 13 y) ∧ n' = n ∧ tx' = tx ∧ ∀ i, i ≠ 3 → i ≠ 4 → i ≠ 5 → A' i = A i)) args s 0 0 E.F) 176 [some (.ref (E.o 0)), some (.int (nI i)), some (.int (nI h9)), some (.int (nI M)), some (.int (nI h9 + stv 1 M))] [] := by
                intro A2 w2 f2 hfr2 hW2 h02 hf2 hx2 hμ2 hle2 hj1
                refine v_iload_n G (decAt dd_RC_areWays 105 rfl) rfl ?_
                refine v_bipush G 10 (decAt dd_RC_areWays 106 rfl) (by decide) ?_
                refine v_icmp_eq G 203 (decAt dd_RC_areWays 107 rfl) (by decide) (fun c179 => ?_) (fun c179 => ?_)
                · skip
                  refine v_goto G 39 (decAt dd_RC_areWays 120 rfl) (by decide) ?_
                  have hMe : M = 16 ∨ M = 17 ∨ M = 10 := by
                    first
                      | exact Or.inr (Or.inr ((nI_eq (a := M) (b := 10) (by omega) (by omega)).mp c179))
                      | exact Or.inl ((nI_eq (a := M) (b := 16) (by omega) (by omega)).mp c185)
                      | exact Or.inr (Or.inl ((nI_eq (a := M) (b := 17) (by omega) (by omega)).mp c191))
                  have hn0x : nx0 cd i = none := by unfold nx0; rw [hi0]; dsimp only; rw [if_pos hMe]
                  refine ih A2 w2 f2 _ _ _ _ hfr2 hW2 (fun _ => h02) hf2 (fun q => hx2.fin ⟨h9, M, k, hi0, (hle2 i hne).trans hD, hh60, htk, fun t h' hw => ?_⟩) hμ2
                  obtain ⟨n', k', q1, q2⟩ := hw
                  cases hi0.symm.trans q1
                  rcases q2 with ⟨q2, rfl⟩ | ⟨q2, rfl⟩
                  · rw [hn0x] at q2; cases q2
                  · rw [if_neg hM18, Int.sub_zero]; exact hj1 t q2 q
                · skip
                  refine v_iload_n G (decAt dd_RC_areWays 108 rfl) rfl ?_
                  refine v_bipush G 16 (decAt dd_RC_areWays 109 rfl) (by decide) ?_
                  refine v_icmp_eq G 203 (decAt dd_RC_areWays 110 rfl) (by decide) (fun c185 => ?_) (fun c185 => ?_)
                  · skip
                    refine v_goto G 39 (decAt dd_RC_areWays 120 rfl) (by decide) ?_
                    have hMe : M = 16 ∨ M = 17 ∨ M = 10 := by
                      first
                        | exact Or.inr (Or.inr ((nI_eq (a := M) (b := 10) (by omega) (by omega)).mp c179))
                        | exact Or.inl ((nI_eq (a := M) (b := 16) (by omega) (by omega)).mp c185)
                        | exact Or.inr (Or.inl ((nI_eq (a := M) (b := 17) (by omega) (by omega)).mp c191))
                    have hn0x : nx0 cd i = none := by unfold nx0; rw [hi0]; dsimp only; rw [if_pos hMe]
                    refine ih A2 w2 f2 _ _ _ _ hfr2 hW2 (fun _ => h02) hf2 (fun q => hx2.fin ⟨h9, M, k, hi0, (hle2 i hne).trans hD, hh60, htk, fun t h' hw => ?_⟩) hμ2
                    obtain ⟨n', k', q1, q2⟩ := hw
                    cases hi0.symm.trans q1
                    rcases q2 with ⟨q2, rfl⟩ | ⟨q2, rfl⟩
                    · rw [hn0x] at q2; cases q2
                    · rw [if_neg hM18, Int.sub_zero]; exact hj1 t q2 q
                  · skip
                    refine v_iload_n G (decAt dd_RC_areWays 111 rfl) rfl ?_
                    refine v_bipush G 17 (decAt dd_RC_areWays 112 rfl) (by decide) ?_
                    refine v_icmp_eq G 203 (decAt dd_RC_areWays 113 rfl) (by decide) (fun c191 => ?_) (fun c191 => ?_)
                    · skip
                      refine v_goto G 39 (decAt dd_RC_areWays 120 rfl) (by decide) ?_
                      have hMe : M = 16 ∨ M = 17 ∨ M = 10 := by
                        first
                          | exact Or.inr (Or.inr ((nI_eq (a := M) (b := 10) (by omega) (by omega)).mp c179))
                          | exact Or.inl ((nI_eq (a := M) (b := 16) (by omega) (by omega)).mp c185)
                          | exact Or.inr (Or.inl ((nI_eq (a := M) (b := 17) (by omega) (by omega)).mp c191))
                      have hn0x : nx0 cd i = none := by unfold nx0; rw [hi0]; dsimp only; rw [if_pos hMe]
                      refine ih A2 w2 f2 _ _ _ _ hfr2 hW2 (fun _ => h02) hf2 (fun q => hx2.fin ⟨h9, M, k, hi0, (hle2 i hne).trans hD, hh60, htk, fun t h' hw => ?_⟩) hμ2
                      obtain ⟨n', k', q1, q2⟩ := hw
                      cases hi0.symm.trans q1
                      rcases q2 with ⟨q2, rfl⟩ | ⟨q2, rfl⟩
                      · rw [hn0x] at q2; cases q2
                      · rw [if_neg hM18, Int.sub_zero]; exact hj1 t q2 q
                    · skip
                      have hMe : ¬ (M = 16 ∨ M = 17 ∨ M = 10) := fun z => z.elim (fun q => c185 (by rw [q]; rfl)) (fun z => z.elim (fun q => c191 (by rw [q]; rfl)) (fun q => c179 (by rw [q]; rfl)))
                      have hn0x : nx0 cd i = some (i + 1) := by unfold nx0; rw [hi0]; dsimp only; rw [if_neg hMe, if_neg hM18]
                      refine v_aload_n G (decAt dd_RC_areWays 114 rfl) rfl ?_
                      refine v_iload_n G (decAt dd_RC_areWays 115 rfl) rfl ?_
                      refine v_iconst G 1 (decAt dd_RC_areWays 116 rfl) (by decide) ?_
                      refine v_iadd G (decAt dd_RC_areWays 117 rfl) ?_
                      refine v_ri (y := (nI (i + 1))) (nI_1 i) ?_
                      refine v_iload G (decAt dd_RC_areWays 118 rfl) rfl ?_
                      refine v_callVv0 G (As := [.int (nI (i + 1)), .int (nI h9 + stv 1 M)]) (P := fun ρ' g' A' n' tx' => ∃ w' f', CmQ cd (i + 1) ((h9 : Int) + gI M) (A2 3) (A2 4) (A2 5) w2 f2 (A' 3) (A' 4) (A' 5) w' f' ∧ ρ' = ρ ∧ g' = up2 (up2 (up2 (up2 g 0 12 (nI w2)) 0 13 f2) 0 12 (nI w')) 0 13 f' ∧ n' = n ∧ tx' = tx ∧ ∀ i, i ≠ 3 → i ≠ 4 → i ≠ 5 → A' i = A2 i) (rm := ({ frames := 0, cells := 0, slots := 0, locals := 0 } : Room)) (decAt dd_RC_areWays 119 rfl) k_RC_93 (c_RC_comes l hE (cd := cd) (t := (i + 1)) (w := w2) ⟨hn0, hn1, hn2, hn3, hn4, hn5, hn6, hn7, hn8, hn9⟩ hs hsz (by omega) (hgt_toInt hh60 hN3) (hreach.step ⟨M, k, hi0, Or.inl ⟨hn0x, rfl⟩⟩) hW2 rfl) (by decide) rfl rfl rfl (Nat.le_of_ble_eq_true rfl) (by decide) rfl rfl (by decide) (fun ρ9 g9 A4 n9 tx9 hv => ?_)
                      obtain ⟨w4, f4, hQ4, e1, e2, e3, e4, hfr4⟩ := hv
                      replace e1 := e1.symm
                      replace e3 := e3.symm
                      replace e4 := e4.symm
                      subst e1
                      subst e2
                      subst e3
                      subst e4
                      refine v_stg (up2_wf g _ _ _ _) ?_
                      have hx4 := hx2.comes hQ4
                      refine v_goto G 39 (decAt dd_RC_areWays 120 rfl) (by decide) ?_
                      have hle := hle2.trans hQ4.2.1
                      refine ih A4 w4 f4 _ _ _ _ (fun q a1 a2 a3 => (hfr4 q a1 a2 a3).trans (hfr2 q a1 a2 a3)) hQ4.1 (fun _ => (hQ4.2.1 0 (by rw [h02]; exact nI_m1 (by omega))).trans h02) ?_ (fun q => ?_) (by have := hQ4.2.2.2.2.1; omega)
                      · rcases hQ4.2.2.2.2.2.2 with ⟨z, -⟩ | z
                        · rw [z]; exact hf2
                        · exact Or.inr z
                      · rcases hQ4.2.2.2.2.2.2 with ⟨z1, z2, z3⟩ | ⟨z, -⟩
                        · refine hx4.fin ⟨h9, M, k, hi0, (hle i hne).trans hD, hh60, htk, fun t h' hw => ?_⟩
                          obtain ⟨n', k', q1, q2⟩ := hw
                          cases hi0.symm.trans q1
                          rcases q2 with ⟨q2, rfl⟩ | ⟨q2, rfl⟩
                          · cases hn0x.symm.trans q2
                            exact ⟨z2, z3⟩
                          · obtain ⟨y2, h2, y3, y4, y5⟩ := hj1 t q2 (z1 ▸ q)
                            exact ⟨y2, h2, by rw [if_neg hM18, Int.sub_zero]; exact y3, y4, (hQ4.2.1 t (by rw [y5]; exact nI_m1 (by omega))).trans y5⟩
                        · rw [z] at q; exact absurd q (by decide)
              refine v_iload_n G (decAt dd_RC_areWays 89 rfl) rfl ?_
              refine v_bipush G 10 (decAt dd_RC_areWays 90 rfl) (by decide) ?_
              refine v_icmp_lt G 176 (decAt dd_RC_areWays 91 rfl) (by decide) (fun c150 => ?_) (fun c150 => ?_)
              · skip
                have hMj : ¬ (M = 10 ∨ M = 11 ∨ M = 12) := fun z => by
                  first
                    | exact absurd c150 (nI_nlt (a := M) (b := 10) (by omega) (by omega))
                    | exact absurd c156 (nI_nlt (a := 12) (b := M) (by omega) (by omega))
                have hn1x : nx1 cd i = none := by unfold nx1; rw [hi0]; dsimp only; rw [if_neg hMj, if_neg hM18]
                exact JB A1 w 0 hfr hW h0 (Or.inl rfl) hx (by omega) (HLe.rf _) (fun t ht => by rw [hn1x] at ht; cases ht)
              · skip
                refine v_iload_n G (decAt dd_RC_areWays 92 rfl) rfl ?_
                refine v_bipush G 12 (decAt dd_RC_areWays 93 rfl) (by decide) ?_
                refine v_icmp_gt G 176 (decAt dd_RC_areWays 94 rfl) (by decide) (fun c156 => ?_) (fun c156 => ?_)
                · skip
                  have hMj : ¬ (M = 10 ∨ M = 11 ∨ M = 12) := fun z => by
                    first
                      | exact absurd c150 (nI_nlt (a := M) (b := 10) (by omega) (by omega))
                      | exact absurd c156 (nI_nlt (a := 12) (b := M) (by omega) (by omega))
                  have hn1x : nx1 cd i = none := by unfold nx1; rw [hi0]; dsimp only; rw [if_neg hMj, if_neg hM18]
                  exact JB A1 w 0 hfr hW h0 (Or.inl rfl) hx (by omega) (HLe.rf _) (fun t ht => by rw [hn1x] at ht; cases ht)
                · skip
                  have hMj : M = 10 ∨ M = 11 ∨ M = 12 := by
                    have q1 : ¬ M < 10 := fun z => c150 (nI_lt (a := M) (b := 10) z (by omega))
                    have q2 : ¬ 12 < M := fun z => c156 (nI_lt (a := 12) (b := M) z (by omega))
                    omega
                  obtain ⟨tl, htl⟩ := (hL i M k hi0).2.2.2.1 hMj
                  obtain ⟨lb, hlb1, hlb2, -⟩ := inR_nI (k := k) (b := 100) (by have h := (hL i M k hi0).2.1; rcases hMj with rfl | rfl | rfl <;> exact h)
                  have htll := lbl_lt htl
                  have hn1x : nx1 cd i = some tl := by unfold nx1; rw [hi0]; dsimp only; rw [if_pos hMj]; exact htl
                  refine v_aload_n G (decAt dd_RC_areWays 95 rfl) rfl ?_
                  refine v_aload_n G (decAt dd_RC_areWays 96 rfl) rfl ?_
                  refine v_geta G (decAt dd_RC_areWays 97 rfl) f_RC_48 ?_
                  refine v_aload_n G (decAt dd_RC_areWays 98 rfl) rfl ?_
                  refine v_geta G (decAt dd_RC_areWays 99 rfl) f_RC_17 ?_
                  refine v_iload_n G (decAt dd_RC_areWays 100 rfl) rfl ?_
                  refine v_iald G 1 _ (decAt dd_RC_areWays 101 rfl) (by decide) rfl (by first | with_reducible rfl | with_reducible exact nI_1 _ | with_reducible exact nI_add _ _ | assumption) (by omega) ?_
                  refine v_ri (y := k) ((congrFun (hfr 1 (by decide) (by decide) (by decide)) i).trans hN2) ?_
                  refine v_iald G 2 lb (decAt dd_RC_areWays 102 rfl) (by decide) rfl hlb2 (by omega) ?_
                  refine v_ri (y := nI tl) ((congrFun (hfr 2 (by decide) (by decide) (by decide)) lb).trans ((hla lb hlb1).trans (by rw [← hlb2, htl]; rfl))) ?_
                  refine v_iload G (decAt dd_RC_areWays 103 rfl) rfl ?_
                  refine v_callVv0 G (As := [.int (nI tl), .int (nI h9 + stv 1 M)]) (P := fun ρ' g' A' n' tx' => ∃ w' f', CmQ cd tl ((h9 : Int) + gI M) (A1 3) (A1 4) (A1 5) w 0 (A' 3) (A' 4) (A' 5) w' f' ∧ ρ' = ρ ∧ g' = up2 (up2 (up2 (up2 g 0 12 (nI w)) 0 13 0) 0 12 (nI w')) 0 13 f' ∧ n' = n ∧ tx' = tx ∧ ∀ i, i ≠ 3 → i ≠ 4 → i ≠ 5 → A' i = A1 i) (rm := ({ frames := 0, cells := 0, slots := 0, locals := 0 } : Room)) (decAt dd_RC_areWays 104 rfl) k_RC_93 (c_RC_comes l hE (cd := cd) (t := tl) (w := w) ⟨hn0, hn1, hn2, hn3, hn4, hn5, hn6, hn7, hn8, hn9⟩ hs hsz (Nat.le_of_lt htll) (hgt_toInt hh60 hN3) (hreach.step ⟨M, k, hi0, Or.inr ⟨hn1x, by rw [if_neg hM18]; omega⟩⟩) hW rfl) (by decide) rfl rfl rfl (Nat.le_of_ble_eq_true rfl) (by decide) rfl rfl (by decide) (fun ρ9 g9 A2 n9 tx9 hv => ?_)
                  obtain ⟨w2, f2, hQ2, e1, e2, e3, e4, hfr2⟩ := hv
                  replace e1 := e1.symm
                  replace e3 := e3.symm
                  replace e4 := e4.symm
                  subst e1
                  subst e2
                  subst e3
                  subst e4
                  refine v_stg (up2_wf g _ _ _ _) ?_
                  have hx2 := hx.comes hQ2
                  exact JB A2 w2 f2 (fun q a1 a2 a3 => (hfr2 q a1 a2 a3).trans (hfr q a1 a2 a3)) hQ2.1 ((hQ2.2.1 0 (by rw [h0]; exact nI_m1 (by omega))).trans h0) (hQ2.2.2.2.2.2.2.elim (fun q => Or.inl q.1) (fun q => Or.inr q)) hx2 (by have := hQ2.2.2.2.2.1; omega) hQ2.2.1 (fun t ht q => by
                    cases hn1x.symm.trans ht
                    rcases hQ2.2.2.2.2.2.2 with ⟨-, z⟩ | ⟨z, -⟩
                    · exact z
                    · rw [z] at q; exact absurd q (by decide))
            · skip
              have hM18 := (nI_eq (a := M) (b := 18) (by omega) (by omega)).mp c113
              subst hM18
              obtain ⟨k2, hk2⟩ := (hL i 18 k hi0).2.2.2.2 rfl
              have hi2 := (List.getElem?_eq_some_iff.mp hk2).1
              obtain ⟨hP1, hP2, -⟩ := hC (i + 1) 12 k2 hk2
              obtain ⟨tl, htl⟩ := (hL (i + 1) 12 k2 hk2).2.2.2.1 (by omega)
              obtain ⟨lb, hlb1, hlb2, -⟩ := inR_nI (k := k2) (b := 100) ((hL (i + 1) 12 k2 hk2).2.1)
              have htll := lbl_lt htl
              have hn1x : nx1 cd i = some tl := by unfold nx1; rw [hi0]; dsimp only; rw [if_neg (by omega), if_pos rfl, hk2]; exact htl
              have hn0x : nx0 cd i = some (i + 2) := by unfold nx0; rw [hi0]; dsimp only; rw [if_neg (by omega), if_pos rfl]
              refine v_aload_n G (decAt dd_RC_areWays 68 rfl) rfl ?_
              refine v_aload_n G (decAt dd_RC_areWays 69 rfl) rfl ?_
              refine v_geta G (decAt dd_RC_areWays 70 rfl) f_RC_48 ?_
              refine v_aload_n G (decAt dd_RC_areWays 71 rfl) rfl ?_
              refine v_geta G (decAt dd_RC_areWays 72 rfl) f_RC_17 ?_
              refine v_iload_n G (decAt dd_RC_areWays 73 rfl) rfl ?_
              refine v_iconst G 1 (decAt dd_RC_areWays 74 rfl) (by decide) ?_
              refine v_iadd G (decAt dd_RC_areWays 75 rfl) ?_
              refine v_iald G 1 (i + 1) (decAt dd_RC_areWays 76 rfl) (by decide) rfl (nI_1 i) (by omega) ?_
              refine v_ri (y := k2) ((congrFun (hfr 1 (by decide) (by decide) (by decide)) (i + 1)).trans hP2) ?_
              refine v_iald G 2 lb (decAt dd_RC_areWays 77 rfl) (by decide) rfl hlb2 (by omega) ?_
              refine v_ri (y := nI tl) ((congrFun (hfr 2 (by decide) (by decide) (by decide)) lb).trans ((hla lb hlb1).trans (by rw [← hlb2, htl]; rfl))) ?_
              refine v_iload_n G (decAt dd_RC_areWays 78 rfl) rfl ?_
              refine v_iconst G 1 (decAt dd_RC_areWays 79 rfl) (by decide) ?_
              refine v_isub G (decAt dd_RC_areWays 80 rfl) ?_
              refine v_callVv0 G (As := [.int (nI tl), .int (nI h9 - 1)]) (P := fun ρ' g' A' n' tx' => ∃ w' f', CmQ cd tl ((h9 : Int) + gI 18 - 1) (A1 3) (A1 4) (A1 5) w 0 (A' 3) (A' 4) (A' 5) w' f' ∧ ρ' = ρ ∧ g' = up2 (up2 (up2 (up2 g 0 12 (nI w)) 0 13 0) 0 12 (nI w')) 0 13 f' ∧ n' = n ∧ tx' = tx ∧ ∀ i, i ≠ 3 → i ≠ 4 → i ≠ 5 → A' i = A1 i) (rm := ({ frames := 0, cells := 0, slots := 0, locals := 0 } : Room)) (decAt dd_RC_areWays 81 rfl) k_RC_93 (c_RC_comes l hE (cd := cd) (t := tl) (w := w) ⟨hn0, hn1, hn2, hn3, hn4, hn5, hn6, hn7, hn8, hn9⟩ hs hsz (Nat.le_of_lt htll) (by rw [Int32.toInt_sub, nI_toInt (by omega), show (1 : Int32).toInt = 1 from rfl, show gI 18 = 0 from rfl]; rw [Int.bmod_eq_of_le] <;> omega) (hreach.step ⟨18, k, hi0, Or.inr ⟨hn1x, by rw [if_pos rfl]⟩⟩) hW rfl) (by decide) rfl rfl rfl (Nat.le_of_ble_eq_true rfl) (by decide) rfl rfl (by decide) (fun ρ9 g9 A2 n9 tx9 hv => ?_)
              obtain ⟨w2, f2, hQ2, e1, e2, e3, e4, hfr2⟩ := hv
              replace e1 := e1.symm
              replace e3 := e3.symm
              replace e4 := e4.symm
              subst e1
              subst e2
              subst e3
              subst e4
              refine v_stg (up2_wf g _ _ _ _) ?_
              have hx2 := hx.comes hQ2
              refine v_aload_n G (decAt dd_RC_areWays 82 rfl) rfl ?_
              refine v_iload_n G (decAt dd_RC_areWays 83 rfl) rfl ?_
              refine v_iconst G 2 (decAt dd_RC_areWays 84 rfl) (by decide) ?_
              refine v_iadd G (decAt dd_RC_areWays 85 rfl) ?_
              refine v_ri (y := (nI (i + 2))) (nI_add i 2) ?_
              refine v_iload_n G (decAt dd_RC_areWays 86 rfl) rfl ?_
              refine v_callVv0 G (As := [.int (nI (i + 2)), .int (nI h9)]) (P := fun ρ' g' A' n' tx' => ∃ w' f', CmQ cd (i + 2) ((h9 : Int) + gI 18) (A2 3) (A2 4) (A2 5) w2 f2 (A' 3) (A' 4) (A' 5) w' f' ∧ ρ' = ρ ∧ g' = up2 (up2 (up2 (up2 g 0 12 (nI w2)) 0 13 f2) 0 12 (nI w')) 0 13 f' ∧ n' = n ∧ tx' = tx ∧ ∀ i, i ≠ 3 → i ≠ 4 → i ≠ 5 → A' i = A2 i) (rm := ({ frames := 0, cells := 0, slots := 0, locals := 0 } : Room)) (decAt dd_RC_areWays 87 rfl) k_RC_93 (c_RC_comes l hE (cd := cd) (t := (i + 2)) (w := w2) ⟨hn0, hn1, hn2, hn3, hn4, hn5, hn6, hn7, hn8, hn9⟩ hs hsz (by omega) (by rw [nI_toInt (by omega), show gI 18 = 0 from rfl]; omega) (hreach.step ⟨18, k, hi0, Or.inl ⟨hn0x, rfl⟩⟩) hQ2.1 rfl) (by decide) rfl rfl rfl (Nat.le_of_ble_eq_true rfl) (by decide) rfl rfl (by decide) (fun ρ9 g9 A4 n9 tx9 hv => ?_)
              obtain ⟨w4, f4, hQ4, e1, e2, e3, e4, hfr4⟩ := hv
              replace e1 := e1.symm
              replace e3 := e3.symm
              replace e4 := e4.symm
              subst e1
              subst e2
              subst e3
              subst e4
              refine v_stg (up2_wf g _ _ _ _) ?_
              have hx4 := hx2.comes hQ4
              refine v_goto G 39 (decAt dd_RC_areWays 88 rfl) (by decide) ?_
              have hle := hQ2.2.1.trans hQ4.2.1
              refine ih A4 w4 f4 _ _ _ _ (fun q a1 a2 a3 => ((hfr4 q a1 a2 a3).trans (hfr2 q a1 a2 a3)).trans (hfr q a1 a2 a3)) hQ4.1 (fun _ => (hle 0 (by rw [h0]; exact nI_m1 (by omega))).trans h0) ?_ (fun q => ?_) (by have := hQ2.2.2.2.2.1; have := hQ4.2.2.2.2.1; omega)
              · rcases hQ4.2.2.2.2.2.2 with ⟨z, -⟩ | z
                · rw [z]; exact hQ2.2.2.2.2.2.2.elim (fun q => Or.inl q.1) (fun q => Or.inr q)
                · exact Or.inr z
              · rcases hQ4.2.2.2.2.2.2 with ⟨z1, z2, z3⟩ | ⟨z, -⟩
                · rcases hQ2.2.2.2.2.2.2 with ⟨y1, y2, h2, y3, y4, y5⟩ | ⟨y, -⟩
                  · refine hx4.fin ⟨h9, 18, k, hi0, (hle i hne).trans hD, hh60, htk, fun t h' hw => ?_⟩
                    obtain ⟨n', k', q1, q2⟩ := hw
                    cases hi0.symm.trans q1
                    rcases q2 with ⟨q2, rfl⟩ | ⟨q2, rfl⟩
                    · cases hn0x.symm.trans q2
                      exact ⟨z2, z3⟩
                    · cases hn1x.symm.trans q2
                      exact ⟨y2, h2, by rw [if_pos rfl]; exact y3, y4, (hQ4.2.1 tl (by rw [y5]; exact nI_m1 (by omega))).trans y5⟩
                  · rw [z1, y] at q; exact absurd q (by decide)
                · rw [z] at q; exact absurd q (by decide)
          · skip
            refine v_iconst G 0 (decAt dd_RC_areWays 57 rfl) (by decide) ?_
            exact v_zret G (decAt dd_RC_areWays 58 rfl) rfl rfl ⟨false, rfl, fun q => (by cases q), fun _ => noTyp_take hreach hi0 (fun z => c96 (by rw [Int32.le_iff_toInt_le, nI_toInt (by omega)]; exact z)), rfl, ⟨_, _, rfl⟩, rfl, rfl, hfr⟩
  have J2 : ∀ (d i : Nat) (A1 : Nat → Nat → Int32), i + d = cd.length → (∀ i, i ≠ 3 → i ≠ 4 → i ≠ 5 → A1 i = A i) → (∀ j, j < i → A1 3 j = -1) → V p l e ({ frames := 1, cells := 0, slots := 0, locals := 22 } : Room) s m args below meth c 5 (Sy E DC AC s.heap ρ (g) A1 n tx) 0 0 (MQ below (QW E DC AC (fun r ρ' g' A' n' tx' => ∃ b : Bool, r = some (.int (bI b)) ∧ (b = true → HtsOK cd (A' 3)) ∧ (b = false → noTyp cd) ∧ ρ' = ρ ∧ (∃ x y, g' = up2 (up2 g 0 12 x) 0 13 y) ∧ n' = n ∧ tx' = tx ∧ ∀ i, i ≠ 3 → i ≠ 4 → i ≠ 5 → A' i = A i)) args s 0 0 E.F) 2 [some (.ref (E.o 0)), some (.int (nI i)), none, none, none] [] := by
    intro d
    induction d with
    | zero =>
      intro i A1 hi hfr hz
      have hi : i = cd.length := hi
      have hE0 : EvA cd (A1 3) := fun j hj hne => absurd (hz j (by omega)) hne
      have hW : WI cd (A1 3) (A1 4) (A1 5) 0 := ⟨hE0, by have := cnt_le (fun j => if A1 3 j = -1 then (0 : Int32) else 1) cd.length; unfold cntm; omega, fun j hj => absurd hj (by omega)⟩
      refine v_iload_n G (decAt dd_RC_areWays 2 rfl) rfl ?_
      refine v_aload_n G (decAt dd_RC_areWays 3 rfl) rfl ?_
      refine v_geti G (decAt dd_RC_areWays 4 rfl) f_RC_75 ?_
      refine v_ri (y := (nI cd.length)) hs ?_
      refine v_icmp_ge G 23 (decAt dd_RC_areWays 5 rfl) (by decide) (fun c7 => ?_) (fun c7 => ?_)
      · skip
        refine v_aload_n G (decAt dd_RC_areWays 13 rfl) rfl ?_
        refine v_iconst G 0 (decAt dd_RC_areWays 14 rfl) (by decide) ?_
        refine v_puti G (decAt dd_RC_areWays 15 rfl) f_RC_90 rfl rfl rfl ?_
        refine v_aload_n G (decAt dd_RC_areWays 16 rfl) rfl ?_
        refine v_iconst G 0 (decAt dd_RC_areWays 17 rfl) (by decide) ?_
        refine v_puti G (decAt dd_RC_areWays 18 rfl) f_RC_87 rfl rfl rfl ?_
        refine v_stg (show up2 (up2 g 0 12 0) 0 13 0 = up2 (up2 g 0 12 (nI 0)) 0 13 0 from rfl) ?_
        refine v_aload_n G (decAt dd_RC_areWays 19 rfl) rfl ?_
        have hx0 : WLx cd 0 (A1 3) (A1 4) 0 := fun j hj hne => absurd (hz j (by omega)) hne
        refine v_iconst G 0 (decAt dd_RC_areWays 20 rfl) (by decide) ?_
        refine v_iconst G 0 (decAt dd_RC_areWays 21 rfl) (by decide) ?_
        refine v_callVv0 G (As := [.int (nI 0), .int 0]) (P := fun ρ' g' A' n' tx' => ∃ w' f', CmQ cd 0 (0) (A1 3) (A1 4) (A1 5) 0 0 (A' 3) (A' 4) (A' 5) w' f' ∧ ρ' = ρ ∧ g' = up2 (up2 (up2 (up2 g 0 12 (nI 0)) 0 13 0) 0 12 (nI w')) 0 13 f' ∧ n' = n ∧ tx' = tx ∧ ∀ i, i ≠ 3 → i ≠ 4 → i ≠ 5 → A' i = A1 i) (rm := ({ frames := 0, cells := 0, slots := 0, locals := 0 } : Room)) (decAt dd_RC_areWays 22 rfl) k_RC_93 (c_RC_comes l hE (cd := cd) (t := 0) (w := 0) ⟨hn0, hn1, hn2, hn3, hn4, hn5, hn6, hn7, hn8, hn9⟩ hs hsz (Nat.zero_le _) rfl (Reach.zero cd) hW rfl) (by decide) rfl rfl rfl (Nat.le_of_ble_eq_true rfl) (by decide) rfl rfl (by decide) (fun ρ9 g9 A2 n9 tx9 hv => ?_)
        obtain ⟨w2, f2, hQ2, e1, e2, e3, e4, hfr2⟩ := hv
        replace e1 := e1.symm
        replace e3 := e3.symm
        replace e4 := e4.symm
        subst e1
        subst e2
        subst e3
        subst e4
        refine v_stg (up2_wf g _ _ _ _) ?_
        have hx2 := hx0.comes hQ2
        exact J39 _ A2 w2 f2 _ _ _ _ (fun q a1 a2 a3 => (hfr2 q a1 a2 a3).trans (hfr q a1 a2 a3)) hQ2.1 (fun q => by
          rcases hQ2.2.2.2.2.2.2 with ⟨-, -, hh2, z1, -, z2⟩ | ⟨z, -⟩
          · rw [z2]; congr 1; omega
          · rw [z] at q; exact absurd q (by decide)) (hQ2.2.2.2.2.2.2.elim (fun q => Or.inl q.1) (fun q => Or.inr q)) (fun _ j hj hne => Or.inl (hQ2.2.2.2.2.2.1 j hj (hz j (by omega)) hne)) (Nat.lt_succ_self _)
      · skip
        exact absurd (nI_le (by omega) (by omega)) c7
    | succ d ih =>
      intro i A1 hi hfr hz
      refine v_iload_n G (decAt dd_RC_areWays 2 rfl) rfl ?_
      refine v_aload_n G (decAt dd_RC_areWays 3 rfl) rfl ?_
      refine v_geti G (decAt dd_RC_areWays 4 rfl) f_RC_75 ?_
      refine v_ri (y := (nI cd.length)) hs ?_
      refine v_icmp_ge G 23 (decAt dd_RC_areWays 5 rfl) (by decide) (fun c7 => ?_) (fun c7 => ?_)
      · skip
        exact absurd c7 (nI_ge (by omega) (by omega))
      · skip
        refine v_aload_n G (decAt dd_RC_areWays 6 rfl) rfl ?_
        refine v_geta G (decAt dd_RC_areWays 7 rfl) f_RC_51 ?_
        refine v_iload_n G (decAt dd_RC_areWays 8 rfl) rfl ?_
        refine v_iconst G (-1) (decAt dd_RC_areWays 9 rfl) (by decide) ?_
        refine v_iast G 3 _ (decAt dd_RC_areWays 10 rfl) (by decide) rfl (by first | with_reducible rfl | with_reducible exact nI_1 _ | with_reducible exact nI_add _ _ | assumption) (by omega) ?_
        refine v_iinc_1 G (nI (i + 1)) (decAt dd_RC_areWays 11 rfl) (nI_1 i) (by decide) rfl ?_
        refine v_goto G 2 (decAt dd_RC_areWays 12 rfl) (by decide) ?_
        exact ih (i + 1) _ (by omega) (fun q h1 h2 h3 => by rw [va_up_ne _ _ h1]; exact hfr q h1 h2 h3)
          (fun j hj => by
            by_cases e : j = i
            · subst e; exact va_up_self _ _ _
            · exact (va_up_ne _ _ e).trans (hz j (by omega)))
  refine v_iconst G 0 (decAt dd_RC_areWays 0 rfl) (by decide) ?_
  refine v_istore_1 G (decAt dd_RC_areWays 1 rfl) (by decide) rfl ?_
  exact J2 cd.length 0 A (by omega) (fun _ _ _ _ => rfl) (fun j hj => absurd hj (by omega))
