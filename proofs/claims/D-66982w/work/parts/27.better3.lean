/-! Better: a pass over the code; all passes -/
theorem v_room {p : Program} {l : Launch} {e : Env} {R : Room} {s : State} {m : MethodId} {args : Array Value} {below : List Frame} {meth : Method} {c : Code} {nL : Nat} {X : Heap → List Loc → Prop} {cells slots : Nat} {Q : State → Prop} {pc : Nat} {L : List (Option Value)} {S : List Value} (cells' slots' : Nat) (h1 : cells ≤ cells') (h2 : slots ≤ slots') (kk : V p l e R s m args below meth c nL X cells' slots' Q pc L S) : V p l e R s m args below meth c nL X cells slots Q pc L S :=
  fun H locs ls hX hl T hT XX => kk H locs ls hX hl T hT { XX with same := ⟨XX.same.1, XX.same.2.1, Nat.le_trans XX.same.2.2.1 (by omega), XX.same.2.2.2.1, Nat.le_trans XX.same.2.2.2.2.1 h2, XX.same.2.2.2.2.2⟩ }
def pstep (b : Bool) (τ : Cod) (n : Nat) (a : Int32) (r : Cod) : Cod := if b = true then (match fold1 τ n a with | some τ' => τ' | none => if n = 10 ∧ nxl a r = true then τ else (n, a) :: τ) else τ
def pss1 (q : Nat → Bool) : Cod → Nat → Cod → Cod
  | [], _, τ => τ
  | (n, a) :: r, i, τ => pss1 q r (i + 1) (pstep (q i) τ n a r)
noncomputable def liv (c : Cod) (i : Nat) : Bool := @decide (SR c i) (Classical.propDecidable _)
theorem liv_t {c : Cod} {i : Nat} (h : SR c i) : liv c i = true := by unfold liv; exact @decide_eq_true _ (Classical.propDecidable _) h
theorem liv_f {c : Cod} {i : Nat} (h : ¬ SR c i) : liv c i = false := by unfold liv; exact @decide_eq_false _ (Classical.propDecidable _) h
noncomputable def pss (c : Cod) : Cod := (pss1 (liv c) c 0 []).reverse
theorem fold1_len {τ τ' : Cod} {n : Nat} {a : Int32} (h : fold1 τ n a = some τ') : τ'.length ≤ τ.length := by
  unfold fold1 at h
  repeat' split at h
  all_goals first | (cases h; done) | (cases h; simp only [List.length_cons]; omega) | skip
theorem pstep_len (b : Bool) (τ : Cod) (n : Nat) (a : Int32) (r : Cod) : (pstep b τ n a r).length ≤ τ.length + 1 := by
  unfold pstep
  split
  · split
    · next h => have := fold1_len h; omega
    · split
      · omega
      · simp
  · omega
theorem pss1_len (q : Nat → Bool) : ∀ (c : Cod) (i : Nat) (τ : Cod), (pss1 q c i τ).length ≤ τ.length + c.length
  | [], i, τ => by simp [pss1]
  | (n, a) :: r, i, τ => by
    have h1 := pss1_len q r (i + 1) (pstep (q i) τ n a r)
    have h2 := pstep_len (q i) τ n a r
    rw [pss1]
    simp only [List.length_cons]
    omega
theorem pss_len (c : Cod) : (pss c).length ≤ c.length := by
  have := pss1_len (liv c) c 0 []
  unfold pss
  rw [List.length_reverse]
  simp at this
  exact this

set_option maxHeartbeats 4000000 in
theorem c_BT_pass (l : Launch) {E : Bs} (hE : Hb E) {ρ : Nat → Nat} {g A : Nat → Nat → Int32} {n : Nat → Nat} {tx : Value} {c : Cod} (hn : BN n) (hlen : c.length ≤ 64) (hN : g 2 2 = nI (2 * c.length)) (hC : CdI (A 12) c) (hL : LabC c) (hM : g 2 3 = 0) (hD : LvD c (A 14)) : CW l E DC AC y_BT_pass b_BT_pass 4 none ({ frames := 3, cells := 0, slots := 0, locals := 68 } : Room) [.ref (E.o 2)] ρ g A n tx (fun r ρ' g' A' n' tx' => r = none ∧ TI (A' 13) (pss1 (liv c) c 0 []) ∧ ρ' = ρ ∧ g' = up2 g 2 3 (nI (2 * (pss1 (liv c) c 0 []).length)) ∧ (∀ i, i ≠ 13 → A' i = A i) ∧ n' = n ∧ tx' = tx) := by
  obtain ⟨hb12, hb13, hb14, hb15, hb16⟩ := hn
  refine CW.start [some (.ref (E.o 2)), none, none, none] hE (by decide) (Nat.le_of_ble_eq_true rfl) rfl ?_
  intro p e s m args below meth c1 G
  have J2 : ∀ (d i : Nat) (A1 : Nat → Nat → Int32) (τ : Cod) (x2 x3 : Option Value), i + d = c.length → (∀ i, i ≠ 13 → A1 i = A i) → TI (A1 13) τ → τ.length ≤ i → pss1 (liv c) (c.drop i) i τ = pss1 (liv c) c 0 [] → V p l e ({ frames := 3, cells := 0, slots := 0, locals := 68 } : Room) s m args below meth c1 4 (Sy E DC AC s.heap ρ (up2 g 2 3 (nI (2 * τ.length))) A1 n tx) 0 0 (MQ below (QW E DC AC (fun r ρ' g' A' n' tx' => r = none ∧ TI (A' 13) (pss1 (liv c) c 0 []) ∧ ρ' = ρ ∧ g' = up2 g 2 3 (nI (2 * (pss1 (liv c) c 0 []).length)) ∧ (∀ i, i ≠ 13 → A' i = A i) ∧ n' = n ∧ tx' = tx)) args s 0 0 E.F) 2 [some (.ref (E.o 2)), some (.int (nI (2 * i))), x2, x3] [] := by
    intro d
    induction d with
    | zero =>
      intro i A1 τ x2 x3 hi hfr hT hτ hp
      rw [List.drop_eq_nil_of_le (by omega)] at hp
      have hp : τ = pss1 (liv c) c 0 [] := hp
      refine v_iload_n G (decAt dd_BT_pass 2 rfl) rfl ?_
      refine v_aload_n G (decAt dd_BT_pass 3 rfl) rfl ?_
      refine v_geti G (decAt dd_BT_pass 4 rfl) f_BT_46 ?_
      refine v_ri (y := (nI (2 * c.length))) ((up2_ne (by decide)).trans hN) ?_
      refine v_icmp_ge G 66 (decAt dd_BT_pass 5 rfl) (by decide) (fun c7 => ?_) (fun c7 => ?_)
      · skip
        exact v_vret G (decAt dd_BT_pass 40 rfl) rfl ⟨rfl, by rw [← hp]; exact hT, rfl, by rw [← hp], hfr, rfl, rfl⟩
      · skip
        exact absurd (nI_le (by omega) (by omega)) c7
    | succ d ih =>
      intro i A1 τ x2 x3 hi hfr hT hτ hp
      obtain ⟨⟨N, x⟩, hq⟩ : ∃ z, c[i]? = some z := ⟨c[i], List.getElem?_eq_getElem (by omega)⟩
      obtain ⟨q1, q2, q3⟩ := hC i N x hq
      rw [← hfr 12 (by decide)] at q1 q2
      obtain ⟨-, hao, h13, hlb, -⟩ := hL i N x hq
      have hdr : c.drop i = (N, x) :: c.drop (i + 1) := by
        rw [List.drop_eq_getElem_cons (by omega)]
        congr 1
        exact Option.some.inj ((List.getElem?_eq_getElem (by omega)).symm.trans hq)
      rw [hdr, pss1] at hp
      have hDi := hD i (by omega)
      rw [← hfr 14 (by decide)] at hDi
      refine v_iload_n G (decAt dd_BT_pass 2 rfl) rfl ?_
      refine v_aload_n G (decAt dd_BT_pass 3 rfl) rfl ?_
      refine v_geti G (decAt dd_BT_pass 4 rfl) f_BT_46 ?_
      refine v_ri (y := (nI (2 * c.length))) ((up2_ne (by decide)).trans hN) ?_
      refine v_icmp_ge G 66 (decAt dd_BT_pass 5 rfl) (by decide) (fun c7 => ?_) (fun c7 => ?_)
      · skip
        exact absurd c7 (nI_ge (by omega) (by omega))
      · skip
        refine v_aload_n G (decAt dd_BT_pass 6 rfl) rfl ?_
        refine v_geta G (decAt dd_BT_pass 7 rfl) f_BT_9 ?_
        refine v_iload_n G (decAt dd_BT_pass 8 rfl) rfl ?_
        refine v_iald G 12 (2 * i) (decAt dd_BT_pass 9 rfl) (by decide) rfl rfl (by omega) ?_
        refine v_ri (y := stv 2 N) q1 ?_
        refine v_istore_2 G (decAt dd_BT_pass 10 rfl) (by decide) rfl ?_
        refine v_aload_n G (decAt dd_BT_pass 11 rfl) rfl ?_
        refine v_geta G (decAt dd_BT_pass 12 rfl) f_BT_9 ?_
        refine v_iload_n G (decAt dd_BT_pass 13 rfl) rfl ?_
        refine v_iconst G 1 (decAt dd_BT_pass 14 rfl) (by decide) ?_
        refine v_iadd G (decAt dd_BT_pass 15 rfl) ?_
        refine v_ri (y := (nI (2 * i + 1))) (nI_1 _) ?_
        refine v_iald G 12 (2 * i + 1) (decAt dd_BT_pass 16 rfl) (by decide) rfl rfl (by omega) ?_
        refine v_ri (y := x) q2 ?_
        refine v_istore_3 G (decAt dd_BT_pass 17 rfl) (by decide) rfl ?_
        refine v_aload_n G (decAt dd_BT_pass 18 rfl) rfl ?_
        refine v_geta G (decAt dd_BT_pass 19 rfl) f_BT_18 ?_
        refine v_iload_n G (decAt dd_BT_pass 20 rfl) rfl ?_
        refine v_zald G 14 (2 * i) (decAt dd_BT_pass 21 rfl) (by decide) rfl rfl (by omega) ?_
        refine v_if_eq G 60 (decAt dd_BT_pass 22 rfl) (by decide) (fun c32 => ?_) (fun c32 => ?_)
        · skip
          refine v_iinc_1 G (nI (2 * (i + 1))) (decAt dd_BT_pass 38 rfl) ((nI_add (2 * i) 2)) (by decide) rfl ?_
          refine v_goto G 2 (decAt dd_BT_pass 39 rfl) (by decide) ?_
          have hlv : liv c i = false := liv_f ((hDi.resolve_left (fun z => absurd (c32.symm.trans z.1) (by decide))).2)
          have hps : pstep (liv c i) τ N x (c.drop (i + 1)) = τ := by unfold pstep; rw [if_neg (by rw [hlv]; decide)]
          rw [hps] at hp
          exact ih (i + 1) _ τ _ _ (by omega) hfr hT (by omega) hp
        · skip
          refine v_aload_n G (decAt dd_BT_pass 23 rfl) rfl ?_
          refine v_iload_n G (decAt dd_BT_pass 24 rfl) rfl ?_
          refine v_iload_n G (decAt dd_BT_pass 25 rfl) rfl ?_
          have hlv : liv c i = true := liv_t ((hDi.resolve_right (fun z => c32 z.1)).2)
          refine v_callVi0 G (As := [.int (stv 2 N), .int x]) (P := fun v ρ' g' A' n' tx' => ∃ f' : Nat → Int32, v = bI (fold1 τ N x).isSome ∧ TI f' ((fold1 τ N x).getD τ) ∧ ρ' = ρ ∧ g' = up2 (up2 g 2 3 (nI (2 * τ.length))) 2 3 (nI (2 * ((fold1 τ N x).getD τ).length)) ∧ A' = va_up A1 13 f' ∧ n' = n ∧ tx' = tx) (rm := ({ frames := 2, cells := 0, slots := 0, locals := 44 } : Room)) (decAt dd_BT_pass 26 rfl) k_BT_63 (CW.mono (c_BT_folded l hE (τ := τ) (M := N) (a := x) (g := (up2 g 2 3 (nI (2 * τ.length)))) (A := A1) up2_self (by omega) hb13 hT q3 hao) (fun r ρ' g' A' n' tx' h => by obtain ⟨f', h1, h2⟩ := h; exact ⟨_, h1, f', rfl, h2⟩)) (by decide) rfl rfl rfl (Nat.le_of_ble_eq_true rfl) (by decide) rfl rfl (by decide) ?_
          rintro v ρ9 g9 A9 n9 tx9 ⟨f9, rfl, hT9, e1, e2, e3, e4, e5⟩
          replace e1 := e1.symm; subst e1; subst e2; subst e3; replace e4 := e4.symm; subst e4; replace e5 := e5.symm; subst e5
          refine v_stg (up2_up2 _ _ _ _ _) ?_
          cases hfo : fold1 τ N x with
          | some τ' =>
            rw [hfo] at hT9
            have hle := fold1_len hfo
            have hps : pstep (liv c i) τ N x (c.drop (i + 1)) = τ' := by unfold pstep; rw [if_pos hlv, hfo]
            rw [hps] at hp
            refine v_ri (y := 1) rfl ?_
            refine v_if_ne G 60 (decAt dd_BT_pass 27 rfl) (by decide) (fun _ => ?_) (fun c41 => absurd c41 (by decide))
            refine v_iinc_1 G (nI (2 * (i + 1))) (decAt dd_BT_pass 38 rfl) ((nI_add (2 * i) 2)) (by decide) rfl ?_
            refine v_goto G 2 (decAt dd_BT_pass 39 rfl) (by decide) ?_
            exact ih (i + 1) _ τ' _ _ (by omega) (fun j hj => by rw [va_up_ne _ _ hj]; exact hfr j hj) hT9 (by omega) hp
          | none =>
            rw [hfo] at hT9
            refine v_ri (y := 0) rfl ?_
            refine v_if_ne G 60 (decAt dd_BT_pass 27 rfl) (by decide) (fun c41 => absurd c41 (by decide)) (fun _ => ?_)
            refine v_aload_n G (decAt dd_BT_pass 28 rfl) rfl ?_
            refine v_iload_n G (decAt dd_BT_pass 29 rfl) rfl ?_
            refine v_iload_n G (decAt dd_BT_pass 30 rfl) rfl ?_
            refine v_iload_n G (decAt dd_BT_pass 31 rfl) rfl ?_
            refine v_callVis G (As := [.int (stv 2 N), .int x, .int (nI (2 * i))]) (decAt dd_BT_pass 32 rfl) k_BT_67 (c_BT_next l hE (c := c) (M := N) (k := i) (a := x) (g := (up2 g 2 3 (nI (2 * τ.length)))) (A := va_up A1 13 f9) ((up2_ne (by decide)).trans hN) (by omega) hb12 (by rw [va_up_ne _ _ (by decide), hfr 12 (by decide)]; exact hC) q3 (by omega)) (by decide) rfl rfl rfl (Nat.le_of_ble_eq_true rfl) (by decide) rfl rfl (by decide) ?_
            by_cases hnx : N = 10 ∧ nxl x (c.drop (i + 1)) = true
            · skip
              have hps : pstep (liv c i) τ N x (c.drop (i + 1)) = τ := by unfold pstep; rw [if_pos hlv, hfo]; exact if_pos hnx
              rw [hps] at hp
              refine v_ri (y := 1) (by rw [decide_eq_true hnx.1, hnx.2]; rfl) ?_
              refine v_if_ne G 60 (decAt dd_BT_pass 33 rfl) (by decide) (fun _ => ?_) (fun c51 => absurd c51 (by decide))
              refine v_iinc_1 G (nI (2 * (i + 1))) (decAt dd_BT_pass 38 rfl) ((nI_add (2 * i) 2)) (by decide) rfl ?_
              refine v_goto G 2 (decAt dd_BT_pass 39 rfl) (by decide) ?_
              exact ih (i + 1) _ τ _ _ (by omega) (fun j hj => by rw [va_up_ne _ _ hj]; exact hfr j hj) hT9 (by omega) hp
            · skip
              have hps : pstep (liv c i) τ N x (c.drop (i + 1)) = (N, x) :: τ := by unfold pstep; rw [if_pos hlv, hfo]; exact if_neg hnx
              rw [hps] at hp
              refine v_ri (y := 0) (by rw [show (decide (N = 10) && nxl x (c.drop (i + 1))) = false from by rw [Bool.and_eq_false_iff]; by_cases z : N = 10; exact Or.inr (by cases hh : nxl x (c.drop (i + 1)) <;> first | rfl | exact absurd ⟨z, hh⟩ hnx); exact Or.inl (decide_eq_false z)]; rfl) ?_
              refine v_if_ne G 60 (decAt dd_BT_pass 33 rfl) (by decide) (fun c51 => absurd c51 (by decide)) (fun _ => ?_)
              refine v_aload_n G (decAt dd_BT_pass 34 rfl) rfl ?_
              refine v_iload_n G (decAt dd_BT_pass 35 rfl) rfl ?_
              refine v_iload_n G (decAt dd_BT_pass 36 rfl) rfl ?_
              refine v_callVvk G (As := [.int (stv 2 N), .int x]) (decAt dd_BT_pass 37 rfl) k_BT_71 (c_BT_keep l hE (g := (up2 g 2 3 (nI (2 * τ.length)))) (A := va_up A1 13 f9) (mm := 2 * τ.length) up2_self (by omega)) (by decide) rfl rfl rfl (Nat.le_of_ble_eq_true rfl) (by decide) rfl rfl (by decide) ?_
              refine v_stg (up2_up2 _ _ _ _ _) ?_
              refine v_iinc_1 G (nI (2 * (i + 1))) (decAt dd_BT_pass 38 rfl) ((nI_add (2 * i) 2)) (by decide) rfl ?_
              refine v_goto G 2 (decAt dd_BT_pass 39 rfl) (by decide) ?_
              exact ih (i + 1) _ ((N, x) :: τ) _ _ (by omega) (fun j hj => by rw [va_up_ne _ _ hj, va_up_ne _ _ hj]; exact hfr j hj) (TI.push (f := va_up A1 13 f9 13) (by rw [va_up_self]; exact hT9) q3) (by simp only [List.length_cons]; omega) hp
  refine v_iconst G 0 (decAt dd_BT_pass 0 rfl) (by decide) ?_
  refine v_istore_1 G (decAt dd_BT_pass 1 rfl) (by decide) rfl ?_
  refine v_stg (up2_id (k := 2) (f := 3) (v := nI (2 * ([] : Cod).length)) hM).symm ?_
  exact J2 c.length 0 A [] _ _ (by omega) (fun _ _ => rfl) trivial (Nat.le_refl _) rfl
