/-! the optimiser, pure: what folds, what is never come to, a pass, all passes -/
theorem pf_c {P M S : Cod} {x v : Int32} (h0 : M[0]? = some (0, x)) (hM : ∀ y, y ∈ M → y.1 ≠ 13) (hrun : ∀ N σ loc wrd fu r, crun (P ++ (M ++ S)) N P.length σ loc wrd fu = some r → ∃ N1, N1 < N ∧ σ.length < 61 ∧ crun (P ++ (M ++ S)) N1 (P.length + M.length) (v :: σ) loc wrd fu = some r) (hht : ∀ ht, Typ (P ++ (M ++ S)) ht → ∀ h, ht P.length = some h → ht (P.length + M.length) = some (h + 1)) : Pres (P ++ (M ++ S)) (P ++ ([(0, v)] ++ S)) := by
  intro hL ⟨ht, hT⟩
  have hM0 : 0 < M.length := (List.getElem?_eq_some_iff.mp h0).1
  refine blk hM0 (fun k z => by rw [h0] at z; simp at z) hM hL hT (Or.inr (Or.inl ⟨v, rfl, hht ht hT⟩)) ?_
  intro N σ loc wrd fu r h
  obtain ⟨N1, hN, hl, h1⟩ := hrun N σ loc wrd fu r h
  exact ⟨N1, P.length + M.length, v :: σ, P.length + 1, hN, h1, Or.inr ⟨Nat.le_refl _, by simp⟩, fun N' h' => ⟨N' + 1, fwd_0 (gbM (M := [(0, v)]) (i := 0) (by simp)) hl h'⟩⟩
theorem pf_n {P M S : Cod} {n0 : Nat} {x : Int32} (h0 : M[0]? = some (n0, x)) (hn0 : n0 ≠ 12) (hM : ∀ y, y ∈ M → y.1 ≠ 13) (hrun : ∀ N σ loc wrd fu r, crun (P ++ (M ++ S)) N P.length σ loc wrd fu = some r → ∃ N1, N1 < N ∧ crun (P ++ (M ++ S)) N1 (P.length + M.length) σ loc wrd fu = some r) (hht : ∀ ht, Typ (P ++ (M ++ S)) ht → ∀ h, ht P.length = some h → ht (P.length + M.length) = some h) : Pres (P ++ (M ++ S)) (P ++ ([] ++ S)) := by
  intro hL ⟨ht, hT⟩
  have hM0 : 0 < M.length := (List.getElem?_eq_some_iff.mp h0).1
  refine blk hM0 (fun k z => by rw [h0] at z; simp at z; exact hn0 z.1) hM hL hT (Or.inl ⟨rfl, hht ht hT⟩) ?_
  intro N σ loc wrd fu r h
  obtain ⟨N1, hN, h1⟩ := hrun N σ loc wrd fu r h
  exact ⟨N1, P.length + M.length, σ, P.length, hN, h1, Or.inr ⟨Nat.le_refl _, by simp⟩, fun N' h' => ⟨N', h'⟩⟩
theorem pf_un {P S : Cod} {n : Nat} {x v a : Int32} (hn : n = 5 ∧ v = -x ∨ n = 6 ∧ v = x ^^^ (-1)) : Pres (P ++ ([(0, x), (n, a)] ++ S)) (P ++ ([(0, v)] ++ S)) := by
  have g0 : (P ++ ([(0, x), (n, a)] ++ S))[P.length]? = some (0, x) := gbM (M := [(0, x), (n, a)]) (i := 0) (by simp)
  have g1 : (P ++ ([(0, x), (n, a)] ++ S))[P.length + 1]? = some (n, a) := gbM (M := [(0, x), (n, a)]) (i := 1) (by simp)
  have hn' : n = 5 ∨ n = 6 := hn.imp And.left And.left
  have hp : PlainN n := by unfold PlainN; omega
  have hg := gIv
  refine pf_c (x := x) rfl ?_ ?_ ?_
  · intro y hy
    simp only [List.mem_cons, List.not_mem_nil, or_false] at hy
    rcases hy with rfl | rfl
    · show (0 : Nat) ≠ 13; decide
    · show n ≠ 13; omega
  · intro N σ loc wrd fu r h
    obtain ⟨N1, rfl, hl, h⟩ := run_0 g0 h
    obtain ⟨N2, rfl, hl2, ev, σ', loc', wrd', hm, h0, h1⟩ := crun_q g1 hp h
    have hm' : mdo n a (x :: σ) loc wrd = some (0, v :: σ, loc, wrd) := by rcases hn with ⟨rfl, rfl⟩ | ⟨rfl, rfl⟩ <;> rfl
    rw [hm'] at hm
    cases hm
    exact ⟨N2, by omega, hl, h0 rfl⟩
  · intro ht hT h e
    obtain ⟨-, h1, e1, q1⟩ := typ_nx hT g0 (by decide) e
    obtain ⟨-, h2, e2, q2⟩ := typ_nx hT g1 (by omega) q1
    have : h2 = h + 1 := by rcases hn' with rfl | rfl <;> omega
    rw [this] at q2
    exact q2
theorem pf_bin {P S : Cod} {n : Nat} {x y v a : Int32} (hn' : n = 7 ∨ n = 8) (hm' : ∀ σ loc wrd e, mdo n a (y :: x :: σ) loc wrd = some e → e = (0, v :: σ, loc, wrd)) : Pres (P ++ ([(0, x), (0, y), (n, a)] ++ S)) (P ++ ([(0, v)] ++ S)) := by
  have g0 : (P ++ ([(0, x), (0, y), (n, a)] ++ S))[P.length]? = some (0, x) := gbM (M := [(0, x), (0, y), (n, a)]) (i := 0) (by simp)
  have g1 : (P ++ ([(0, x), (0, y), (n, a)] ++ S))[P.length + 1]? = some (0, y) := gbM (M := [(0, x), (0, y), (n, a)]) (i := 1) (by simp)
  have g2 : (P ++ ([(0, x), (0, y), (n, a)] ++ S))[P.length + 1 + 1]? = some (n, a) := gbM (M := [(0, x), (0, y), (n, a)]) (i := 2) (by simp)
  have hp : PlainN n := by unfold PlainN; omega
  have hg := gIv
  refine pf_c (x := x) rfl ?_ ?_ ?_
  · intro y hy
    simp only [List.mem_cons, List.not_mem_nil, or_false] at hy
    rcases hy with rfl | rfl | rfl
    · show (0 : Nat) ≠ 13; decide
    · show (0 : Nat) ≠ 13; decide
    · show n ≠ 13; omega
  · intro N σ loc wrd fu r h
    obtain ⟨N1, rfl, hl, h⟩ := run_0 g0 h
    obtain ⟨N2, rfl, hl2, h⟩ := run_0 g1 h
    obtain ⟨N3, rfl, hl3, ev, σ', loc', wrd', hm, h0, h1⟩ := crun_q g2 hp h
    have := hm' σ loc wrd _ hm
    cases this
    exact ⟨N3, by omega, hl, h0 rfl⟩
  · intro ht hT h e
    obtain ⟨-, h1, e1, q1⟩ := typ_nx hT g0 (by decide) e
    obtain ⟨-, h2, e2, q2⟩ := typ_nx hT g1 (by decide) q1
    obtain ⟨-, h3, e3, q3⟩ := typ_nx hT g2 (by omega) q2
    have : h3 = h + 1 := by rcases hn' with rfl | rfl <;> omega
    rw [this] at q3
    exact q3
theorem pf_dr {P S : Cod} {n : Nat} {x a : Int32} (hn' : n = 0 ∨ n = 1) : Pres (P ++ ([(n, x), (14, a)] ++ S)) (P ++ ([] ++ S)) := by
  have g0 : (P ++ ([(n, x), (14, a)] ++ S))[P.length]? = some (n, x) := gbM (M := [(n, x), (14, a)]) (i := 0) (by simp)
  have g1 : (P ++ ([(n, x), (14, a)] ++ S))[P.length + 1]? = some (14, a) := gbM (M := [(n, x), (14, a)]) (i := 1) (by simp)
  have hp : PlainN n := by unfold PlainN; omega
  have hg := gIv
  refine pf_n (n0 := n) (x := x) rfl (by omega) ?_ ?_ ?_
  · intro y hy
    simp only [List.mem_cons, List.not_mem_nil, or_false] at hy
    rcases hy with rfl | rfl
    · show n ≠ 13; omega
    · show (14 : Nat) ≠ 13; decide
  · intro N σ loc wrd fu r h
    obtain ⟨N1, rfl, hl, ev, σ', loc', wrd', hm, h0, h1⟩ := crun_q g0 hp h
    have : ev = 0 ∧ loc' = loc ∧ wrd' = wrd ∧ ∃ v, σ' = v :: σ := by
      rcases hn' with rfl | rfl
      · first | rw [mdo_0] at hm | rw [mdo_1] at hm | rw [mdo_2] at hm | rw [mdo_3] at hm | rw [mdo_4] at hm | rw [mdo_7] at hm | rw [mdo_8] at hm | rw [mdo_9] at hm | rw [mdo_19] at hm | rw [mdo_20] at hm
        split at hm
        · cases hm; exact ⟨rfl, rfl, rfl, _, rfl⟩
        · cases hm
      · first | rw [mdo_0] at hm | rw [mdo_1] at hm | rw [mdo_2] at hm | rw [mdo_3] at hm | rw [mdo_4] at hm | rw [mdo_7] at hm | rw [mdo_8] at hm | rw [mdo_9] at hm | rw [mdo_19] at hm | rw [mdo_20] at hm
        split at hm
        · cases hm; exact ⟨rfl, rfl, rfl, _, rfl⟩
        · cases hm
    obtain ⟨rfl, rfl, rfl, v, rfl⟩ := this
    obtain ⟨N2, rfl, hl2, ev2, σ2, loc2, wrd2, hm2, h02, h12⟩ := crun_q g1 ⟨by decide, by decide, by decide, by decide, by decide, by decide, by decide⟩ (h0 rfl)
    cases hm2
    exact ⟨N2, by omega, h02 rfl⟩
  · intro ht hT h e
    obtain ⟨-, h1, e1, q1⟩ := typ_nx hT g0 (by omega) e
    obtain ⟨-, h2, e2, q2⟩ := typ_nx hT g1 (by decide) q1
    have : h2 = h := by rcases hn' with rfl | rfl <;> omega
    rw [this] at q2
    exact q2
theorem pf_b0 {P S : Cod} {n : Nat} {y a : Int32} (hn' : n = 11 ∨ n = 12) (hy : ¬ (y = 0 ↔ n = 11)) : Pres (P ++ ([(0, y), (n, a)] ++ S)) (P ++ ([] ++ S)) := by
  have g0 : (P ++ ([(0, y), (n, a)] ++ S))[P.length]? = some (0, y) := gbM (M := [(0, y), (n, a)]) (i := 0) (by simp)
  have g1 : (P ++ ([(0, y), (n, a)] ++ S))[P.length + 1]? = some (n, a) := gbM (M := [(0, y), (n, a)]) (i := 1) (by simp)
  have hg := gIv
  refine pf_n (n0 := 0) (x := y) rfl (by omega) ?_ ?_ ?_
  · intro y hy
    simp only [List.mem_cons, List.not_mem_nil, or_false] at hy
    rcases hy with rfl | rfl
    · show (0 : Nat) ≠ 13; decide
    · show n ≠ 13; omega
  · intro N σ loc wrd fu r h
    obtain ⟨N1, rfl, hl, h⟩ := run_0 g0 h
    obtain ⟨N2, rfl, -, h⟩ := run_b hn' g1 h
    exact ⟨N2, by omega, h hy⟩
  · intro ht hT h e
    obtain ⟨-, h1, e1, q1⟩ := typ_nx hT g0 (by decide) e
    obtain ⟨-, h2, e2, q2⟩ := typ_nx hT g1 (by omega) q1
    have : h2 = h := by rcases hn' with rfl | rfl <;> omega
    rw [this] at q2
    exact q2
theorem pf_b1 {P S : Cod} {n : Nat} {y a : Int32} (hn' : n = 11 ∨ n = 12) (hy : y = 0 ↔ n = 11) : Pres (P ++ ([(0, y), (n, a)] ++ S)) (P ++ ([(10, a)] ++ S)) := by
  have g0 : (P ++ ([(0, y), (n, a)] ++ S))[P.length]? = some (0, y) := gbM (M := [(0, y), (n, a)]) (i := 0) (by simp)
  have g1 : (P ++ ([(0, y), (n, a)] ++ S))[P.length + 1]? = some (n, a) := gbM (M := [(0, y), (n, a)]) (i := 1) (by simp)
  have hg := gIv
  intro hL ⟨ht, hT⟩
  obtain ⟨l1, l2, l3, l4, l5⟩ := hL _ _ _ g1
  obtain ⟨t, et⟩ := l4 (Or.inr hn')
  have hM : ∀ x, x ∈ ([(0, y), (n, a)] : Cod) → x.1 ≠ 13 := by
    intro y hy
    simp only [List.mem_cons, List.not_mem_nil, or_false] at hy
    rcases hy with rfl | rfl
    · show (0 : Nat) ≠ 13; decide
    · show n ≠ 13; omega
  have hM' : ∀ x, x ∈ ([(10, a)] : Cod) → x.1 ≠ 13 := by
    intro y hy; rw [List.mem_singleton.mp hy]; show (10 : Nat) ≠ 13; decide
  refine blk (by simp) (fun k z => by simp at z) hM hL hT (Or.inr (Or.inr ⟨a, t, rfl, ?_, et, ?_⟩)) ?_
  · unfold argOK at l2
    rw [if_neg (by omega), if_neg (by omega), if_neg (by omega), if_pos (by omega)] at l2
    exact l2
  · intro h e
    obtain ⟨-, h1, e1, q1⟩ := typ_nx hT g0 (by decide) e
    obtain ⟨-, h2, e2, q2⟩ := typ_jp hT g1 (Or.inr hn') et q1
    have : h2 = h := by rcases hn' with rfl | rfl <;> omega
    rw [this] at q2
    exact q2
  · intro N σ loc wrd fu r h
    obtain ⟨N1, rfl, hl, h⟩ := run_0 g0 h
    obtain ⟨N2, rfl, h, -⟩ := run_b hn' g1 h
    obtain ⟨t2, et2, h⟩ := h hy
    rw [et] at et2
    cases et2
    obtain ⟨t', e', hR'⟩ := lR (M' := [(10, a)]) hM hM' et
    exact ⟨N2, t, σ, t', by omega, h, hR', fun N' h' => ⟨N' + 1, fwd_j (gbM (M := [(10, a)]) (i := 0) (by simp)) (by omega) e' h'⟩⟩
theorem pf_x {P S : Cod} {a : Int32} (hx : nxl a S = true) : Pres (P ++ ([(10, a)] ++ S)) (P ++ ([] ++ S)) := by
  have g0 : (P ++ ([(10, a)] ++ S))[P.length]? = some (10, a) := gbM (M := [(10, a)]) (i := 0) (by simp)
  obtain ⟨q, hq, hlt⟩ := nxl_at hx
  intro hL ⟨ht, hT⟩
  have hgS : ∀ i, (P ++ ([(10, a)] ++ S))[P.length + 1 + i]? = S[i]? := fun i => gbS (M := [(10, a)]) i
  have hlb : lbl (P ++ ([(10, a)] ++ S)) a = some (P.length + 1 + q) := lbl_uq hL (by rw [hgS]; exact hq)
  have hg := gIv
  have ht10 : ∀ h, ht P.length = some h → ht (P.length + 1 + q) = some h := fun h e => by
    obtain ⟨-, h2, e2, q2⟩ := typ_jp hT g0 (Or.inl rfl) hlb e
    have : h2 = h := by omega
    rw [this] at q2
    exact q2
  have hch : ∀ h, ht P.length = some h → ∀ d x, x + d = q → ∀ h', ht (P.length + 1 + x) = some h' → h' = h := by
    intro h e d
    induction d with
    | zero =>
      intro x hxd h' e'
      rw [show x = q by omega, ht10 h e] at e'
      exact (Option.some.inj e').symm
    | succ d ih =>
      intro x hxd h' e'
      obtain ⟨b, hb⟩ := hlt x (by omega)
      obtain ⟨-, h2, e2, q2⟩ := typ_nx hT (show (P ++ ([(10, a)] ++ S))[P.length + 1 + x]? = some (13, b) by rw [hgS]; exact hb) (by decide) e'
      have := ih (x + 1) (by omega) h2 (by rw [show P.length + 1 + (x + 1) = P.length + 1 + x + 1 by omega]; exact q2)
      omega
  -- the labels in between are made as high as the jump
  have hT1 : ∃ ht1, Typ (P ++ ([(10, a)] ++ S)) ht1 ∧ ∀ h, ht1 P.length = some h → ht1 (P.length + 1) = some h := by
    cases e : ht P.length with
    | none => exact ⟨ht, hT, fun h z => by rw [e] at z; cases z⟩
    | some h0 =>
      refine ⟨fun j => if P.length + 1 ≤ j ∧ j ≤ P.length + 1 + q then some h0 else ht j, ⟨?_, ?_⟩, ?_⟩
      · dsimp only
        rw [if_neg (by omega)]
        exact hT.1
      · have hsup : ∀ j h, ht j = some h → (if P.length + 1 ≤ j ∧ j ≤ P.length + 1 + q then some h0 else ht j) = some h := fun j h ej => by
          by_cases z : P.length + 1 ≤ j ∧ j ≤ P.length + 1 + q
          · rw [if_pos z, hch h0 e (q - (j - P.length - 1)) (j - P.length - 1) (by omega) h (by rw [show P.length + 1 + (j - P.length - 1) = j by omega]; exact ej)]
          · rw [if_neg z]; exact ej
        intro j h ej
        dsimp only at ej ⊢
        by_cases z : P.length + 1 ≤ j ∧ j ≤ P.length + 1 + q
        · rw [if_pos z] at ej
          cases ej
          by_cases zq : j = P.length + 1 + q
          · subst zq
            obtain ⟨n, k, c1, c2, c3, c4⟩ := hT.2 _ _ (ht10 h0 e)
            exact ⟨n, k, c1, c2, c3, fun t h' hw => by obtain ⟨h2, e1, e2⟩ := c4 t h' hw; exact ⟨h2, e1, hsup _ _ e2⟩⟩
          · obtain ⟨b, hb⟩ := hlt (j - P.length - 1) (by omega)
            have hj : (P ++ ([(10, a)] ++ S))[j]? = some (13, b) := by rw [show j = P.length + 1 + (j - P.length - 1) by omega, hgS]; exact hb
            refine ⟨13, b, hj, by have : tI 13 = 0 := by decide
                                  omega, (hT.2 _ _ e).choose_spec.choose_spec.2.2.1, fun t h' hw => ?_⟩
            obtain ⟨n2, k2, hc2, hw⟩ := hw
            rw [hj] at hc2
            cases hc2
            rcases hw with ⟨e1, e2⟩ | ⟨e1, e2⟩
            · unfold nx0 at e1
              rw [hj] at e1
              cases e1
              exact ⟨h0, by omega, by rw [if_pos (by omega)]⟩
            · unfold nx1 at e1
              rw [hj] at e1
              cases e1
        · rw [if_neg z] at ej
          obtain ⟨n, k, c1, c2, c3, c4⟩ := hT.2 _ _ ej
          exact ⟨n, k, c1, c2, c3, fun t h' hw => by obtain ⟨h2, e1, e2⟩ := c4 t h' hw; exact ⟨h2, e1, hsup _ _ e2⟩⟩
      · intro h z
        dsimp only at z ⊢
        rw [if_neg (by omega), e] at z
        cases z
        rw [if_pos (by omega)]
  obtain ⟨ht1, hT1, hj1⟩ := hT1
  have hM : ∀ x, x ∈ ([(10, a)] : Cod) → x.1 ≠ 13 := by
    intro y hy; rw [List.mem_singleton.mp hy]; show (10 : Nat) ≠ 13; decide
  refine blk (by simp) (fun k z => by simp at z) hM hL hT1 (Or.inl ⟨rfl, hj1⟩) ?_
  intro N σ loc wrd fu r h
  obtain ⟨N1, t, rfl, hl, et, h⟩ := run_j g0 h
  rw [hlb] at et
  cases et
  refine ⟨N1, P.length + 1 + q, σ, P.length + q, by omega, h, Or.inr ⟨by simp, by first | (simp; done) | (simp; omega)⟩, fun N' h' => ⟨N' + q, walk_l hl q P.length N' (fun x hx => ?_) h'⟩⟩
  obtain ⟨b, hb⟩ := hlt x hx
  exact ⟨b, by rw [← hb]; exact gbS (M := []) x⟩
theorem pf_fold {τ τ' F : Cod} {n : Nat} {a : Int32} (h : fold1 τ n a = some τ') : Pres (τ.reverse ++ (n, a) :: F) (τ'.reverse ++ F) := by
  unfold fold1 at h
  split at h
  · rename_i x r
    cases h
    rw [show (((0, x) :: r : Cod).reverse ++ (5, a) :: F) = r.reverse ++ ([(0, x), (5, a)] ++ F) by simp, show (((0, -x) :: r : Cod).reverse ++ F) = r.reverse ++ ([(0, -x)] ++ F) by simp]
    exact pf_un (Or.inl ⟨rfl, rfl⟩)
  · rename_i x r
    cases h
    rw [show (((0, x) :: r : Cod).reverse ++ (6, a) :: F) = r.reverse ++ ([(0, x), (6, a)] ++ F) by simp, show (((0, x ^^^ (-1)) :: r : Cod).reverse ++ F) = r.reverse ++ ([(0, x ^^^ (-1))] ++ F) by simp]
    exact pf_un (Or.inr ⟨rfl, rfl⟩)
  · rename_i y x r
    split at h
    · cases h
    · next hz =>
      cases h
      rw [show (((0, y) :: (0, x) :: r : Cod).reverse ++ (7, a) :: F) = r.reverse ++ ([(0, x), (0, y), (7, a)] ++ F) by simp, show (((0, opr a.toNatClampNeg x y) :: r : Cod).reverse ++ F) = r.reverse ++ ([(0, opr a.toNatClampNeg x y)] ++ F) by simp]
      refine pf_bin (Or.inl rfl) (fun σ loc wrd e he => ?_)
      first | rw [mdo_0] at he | rw [mdo_1] at he | rw [mdo_2] at he | rw [mdo_3] at he | rw [mdo_4] at he | rw [mdo_7] at he | rw [mdo_8] at he | rw [mdo_9] at he | rw [mdo_19] at he | rw [mdo_20] at he
      split at he
      · exact (Option.some.inj he).symm
      · cases he
  · rename_i y x r
    cases h
    rw [show (((0, y) :: (0, x) :: r : Cod).reverse ++ (8, a) :: F) = r.reverse ++ ([(0, x), (0, y), (8, a)] ++ F) by simp, show (((0, rI (rel a.toNatClampNeg x y)) :: r : Cod).reverse ++ F) = r.reverse ++ ([(0, rI (rel a.toNatClampNeg x y))] ++ F) by simp]
    refine pf_bin (Or.inr rfl) (fun σ loc wrd e he => ?_)
    first | rw [mdo_0] at he | rw [mdo_1] at he | rw [mdo_2] at he | rw [mdo_3] at he | rw [mdo_4] at he | rw [mdo_7] at he | rw [mdo_8] at he | rw [mdo_9] at he | rw [mdo_19] at he | rw [mdo_20] at he
    split at he
    · exact (Option.some.inj he).symm
    · cases he
  · rename_i y r
    rw [show (((0, y) :: r : Cod).reverse ++ (11, a) :: F) = r.reverse ++ ([(0, y), (11, a)] ++ F) by simp]
    split at h
    · next hz =>
      cases h
      rw [show (((10, a) :: r : Cod).reverse ++ F) = r.reverse ++ ([(10, a)] ++ F) by simp]
      exact pf_b1 (Or.inl rfl) ⟨fun _ => rfl, fun _ => hz⟩
    · next hz =>
      cases h
      exact pf_b0 (Or.inl rfl) (fun z => hz (z.mpr rfl))
  · rename_i y r
    rw [show (((0, y) :: r : Cod).reverse ++ (12, a) :: F) = r.reverse ++ ([(0, y), (12, a)] ++ F) by simp]
    split at h
    · next hz =>
      cases h
      exact pf_b0 (Or.inr rfl) (fun z => absurd (z.mp hz) (by decide))
    · next hz =>
      cases h
      rw [show (((10, a) :: r : Cod).reverse ++ F) = r.reverse ++ ([(10, a)] ++ F) by simp]
      exact pf_b1 (Or.inr rfl) ⟨fun z => absurd z hz, fun z => absurd z (by decide)⟩
  · rename_i y r
    cases h
    rw [show (((0, y) :: τ' : Cod).reverse ++ (14, a) :: F) = τ'.reverse ++ ([(0, y), (14, a)] ++ F) by simp]
    exact pf_dr (Or.inl rfl)
  · rename_i y r
    cases h
    rw [show (((1, y) :: τ' : Cod).reverse ++ (14, a) :: F) = τ'.reverse ++ ([(1, y), (14, a)] ++ F) by simp]
    exact pf_dr (Or.inr rfl)
  · cases h
-- what is never come to
def flt (q : Nat → Bool) : Cod → Nat → Cod
  | [], _ => []
  | x :: r, s => if q s = true then x :: flt q r (s + 1) else flt q r (s + 1)
def pct (q : Nat → Bool) : Nat → Nat → Nat
  | _, 0 => 0
  | s, i + 1 => (if q s = true then 1 else 0) + pct q (s + 1) i
theorem pct_s (q : Nat → Bool) : ∀ i s, pct q s (i + 1) = pct q s i + (if q (s + i) = true then 1 else 0)
  | 0, s => by simp [pct]
  | i + 1, s => by
    rw [pct, pct_s q i (s + 1), pct, show s + 1 + i = s + (i + 1) by omega]
    omega
theorem flt_get {q : Nat → Bool} {x : Nat × Int32} : ∀ {c : Cod} {s i : Nat}, c[i]? = some x → q (s + i) = true → (flt q c s)[pct q s i]? = some x
  | [], s, i, h, _ => by simp at h
  | y :: r, s, 0, h, hq => by
    have hq' : q s = true := hq
    rw [flt, if_pos hq']
    exact h
  | y :: r, s, i + 1, h, hq => by
    have ih := flt_get (q := q) (c := r) (s := s + 1) (i := i) (by simpa using h) (by rw [show s + 1 + i = s + (i + 1) by omega]; exact hq)
    rw [flt, pct]
    by_cases e : q s = true
    · rw [if_pos e, if_pos e, Nat.add_comm 1, List.getElem?_cons_succ]
      exact ih
    · rw [if_neg e, if_neg e, Nat.zero_add]
      exact ih
theorem flt_inv {q : Nat → Bool} {x : Nat × Int32} : ∀ {c : Cod} {s j : Nat}, (flt q c s)[j]? = some x → ∃ i, c[i]? = some x ∧ q (s + i) = true ∧ j = pct q s i
  | [], s, j, h => by simp [flt] at h
  | y :: r, s, j, h => by
    rw [flt] at h
    by_cases e : q s = true
    · rw [if_pos e] at h
      cases j with
      | zero => exact ⟨0, h, e, rfl⟩
      | succ j =>
        rw [List.getElem?_cons_succ] at h
        obtain ⟨i, h1, h2, h3⟩ := flt_inv h
        exact ⟨i + 1, by simpa using h1, by rw [show s + (i + 1) = s + 1 + i by omega]; exact h2, by rw [pct, if_pos e, h3]; omega⟩
    · rw [if_neg e] at h
      obtain ⟨i, h1, h2, h3⟩ := flt_inv h
      exact ⟨i + 1, by simpa using h1, by rw [show s + (i + 1) = s + 1 + i by omega]; exact h2, by rw [pct, if_neg e, h3]; omega⟩
theorem lblF_flt {q : Nat → Bool} {lab : Int32} : ∀ {c : Cod} {s t : Nat}, lblF c lab s = some t → q t = true → ∀ j, lblF (flt q c s) lab j = some (j + pct q s (t - s))
  | [], s, t, h, _, j => by cases h
  | (n, k) :: r, s, t, h, hq, j => by
    by_cases e : n = 13 ∧ k = lab
    · rw [lblF, if_pos e] at h
      cases h
      rw [flt, if_pos hq, lblF, if_pos e, Nat.sub_self]
      rfl
    · rw [lblF, if_neg e] at h
      have hlt := (lblF_lt h).1
      have ih := fun j => lblF_flt (q := q) h hq j
      rw [flt, show t - s = (t - (s + 1)) + 1 by omega, pct]
      by_cases z : q s = true
      · rw [if_pos z, if_pos z, lblF, if_neg e, ih]
        congr 1
        omega
      · rw [if_neg z, if_neg z, ih]
        congr 1
        omega
theorem pct_inj {q : Nat → Bool} {i i' : Nat} (h : q i = true) (h' : q i' = true) (e : pct q 0 i = pct q 0 i') : i = i' := by
  have mono : ∀ d a, pct q 0 a ≤ pct q 0 (a + d) := by
    intro d
    induction d with
    | zero => intro a; exact Nat.le_refl _
    | succ d ih => intro a; have := ih a; rw [show a + (d + 1) = a + d + 1 by omega, pct_s]; omega
  have step : ∀ a, q a = true → pct q 0 (a + 1) = pct q 0 a + 1 := fun a ha => by rw [pct_s, Nat.zero_add, if_pos ha]
  rcases Nat.lt_trichotomy i i' with z | z | z
  · have := mono (i' - (i + 1)) (i + 1)
    rw [show i + 1 + (i' - (i + 1)) = i' by omega, step i h] at this
    omega
  · exact z
  · have := mono (i - (i' + 1)) (i' + 1)
    rw [show i' + 1 + (i - (i' + 1)) = i by omega, step i' h'] at this
    omega
theorem pf_flt (c : Cod) : Pres c (flt (liv c) c 0) := by
  intro hL ⟨ht, hT⟩
  have hlv : ∀ {i}, SR c i → liv c i = true := fun h => liv_t h
  have hvl : ∀ {i}, liv c i = true → SR c i := fun {i} h => by
    apply Classical.byContradiction
    intro z
    rw [liv_f z] at h
    cases h
  have hget : ∀ {i x}, c[i]? = some x → SR c i → (flt (liv c) c 0)[pct (liv c) 0 i]? = some x := fun h1 h2 => flt_get h1 (by rw [Nat.zero_add]; exact hlv h2)
  have hlb : ∀ {k t}, lbl c k = some t → SR c t → lbl (flt (liv c) c 0) k = some (pct (liv c) 0 t) := fun h1 h2 => by
    have := lblF_flt (q := liv c) h1 (hlv h2) 0
    rw [Nat.zero_add, Nat.sub_zero] at this
    exact this
  have hsame : ∀ {i j}, (SR c i ∧ j = pct (liv c) 0 i) → i < c.length → SameS c (flt (liv c) c 0) (fun i j => SR c i ∧ j = pct (liv c) 0 i) i j := by
    rintro i j ⟨hs, rfl⟩ hi
    have hg := List.getElem?_eq_getElem hi
    generalize hx : c[i] = x at hg
    obtain ⟨n, k⟩ := x
    have hp1 : pct (liv c) 0 (i + 1) = pct (liv c) 0 i + 1 := by rw [pct_s, Nat.zero_add, if_pos (hlv hs)]
    refine ⟨n, k, hg, hget hg hs, fun a b c1 d => ⟨hs.step ⟨n, k, hg, Or.inl ⟨b, c1, a, rfl⟩⟩, hp1.symm⟩, fun hn t ht => ?_, fun h18 => ?_⟩
    · have hst : SR c t := hs.step ⟨n, k, hg, Or.inr ⟨hn, ht⟩⟩
      exact ⟨_, hlb ht hst, hst, rfl⟩
    · obtain ⟨k', hk⟩ := (hL i n k hg).2.2.2.2 h18
      have hs1 : SR c (i + 1) := hs.step ⟨n, k, hg, Or.inl ⟨by omega, by omega, by omega, rfl⟩⟩
      have hs2 : SR c (i + 2) := hs1.step ⟨12, k', hk, Or.inl ⟨by omega, by omega, by omega, rfl⟩⟩
      refine ⟨⟨hs2, ?_⟩, k', hk, ?_, fun t ht => ?_⟩
      · rw [show i + 2 = i + 1 + 1 by omega, pct_s, Nat.zero_add, if_pos (hlv hs1), hp1]
      · rw [← hp1]; exact hget hk hs1
      · have hst : SR c t := hs1.step ⟨12, k', hk, Or.inr ⟨by decide, ht⟩⟩
        exact ⟨_, hlb ht hst, hst, rfl⟩
  refine ⟨labR (R := fun i j => SR c i ∧ j = pct (liv c) 0 i) hL ?_ ?_, ⟨_, typR (R := fun i j => SR c i ∧ j = pct (liv c) 0 i) hT hL ?_ ⟨SR.zero c, rfl⟩ ?_⟩, fun N loc wrd fu r h => simS (R := fun i j => SR c i ∧ j = pct (liv c) 0 i) (fun i j hR hi => Or.inl (hsame hR hi)) N 0 0 [] loc wrd fu r ⟨SR.zero c, rfl⟩ h⟩
  · intro j n k hj
    obtain ⟨i, h1, h2, h3⟩ := flt_inv hj
    rw [Nat.zero_add] at h2
    exact Or.inl ⟨i, ⟨hvl h2, h3⟩, hsame ⟨hvl h2, h3⟩ (List.getElem?_eq_some_iff.mp h1).1⟩
  · rintro i j k ⟨hs, rfl⟩ hl
    exact hlb hl hs
  · rintro i i' j h h' ⟨hs, rfl⟩ ⟨hs', e⟩ e1 e2
    have := pct_inj (hlv hs) (hlv hs') e
    subst this
    rw [e1] at e2
    exact Option.some.inj e2
  · intro i j h hR e
    obtain ⟨n, k, hc, -⟩ := hT.2 i h e
    exact Or.inl ⟨i, hR, e, hsame hR (List.getElem?_eq_some_iff.mp hc).1⟩
theorem nxl_flt {q : Nat → Bool} {a : Int32} : ∀ {r : Cod} {s : Nat}, nxl a r = true → (∀ x, r[x]? = some (13, a) → q (s + x) = true) → nxl a (flt q r s) = true
  | [], s, h, _ => by cases h
  | (n, k) :: r, s, h, hq => by
    rw [nxl] at h
    by_cases hn : n = 13
    · rw [if_pos hn] at h
      by_cases hk : k = a
      · have hq0 : q s = true := hq 0 (by rw [hn, hk]; rfl)
        rw [flt, if_pos hq0, nxl, if_pos hn, if_pos hk]
      · rw [if_neg hk] at h
        have ih := nxl_flt (q := q) (s := s + 1) h (fun x hx => by rw [show s + 1 + x = s + (x + 1) by omega]; exact hq (x + 1) (by simpa using hx))
        rw [flt]
        split
        · rw [nxl, if_pos hn, if_neg hk]; exact ih
        · exact ih
    · rw [if_neg hn] at h; cases h
theorem pf_pss1 {q : Nat → Bool} {c : Cod} (hq : ∀ i a t, c[i]? = some (10, a) → q i = true → c[t]? = some (13, a) → q t = true) : ∀ (r : Cod) (i : Nat) (τ : Cod), c.drop i = r → Pres (τ.reverse ++ flt q r i) (pss1 q r i τ).reverse
  | [], i, τ, _ => by
    rw [flt, pss1, List.append_nil]
    exact Pres.rf _
  | (n, a) :: r, i, τ, hr => by
    have hgi : ∀ x, c[i + x]? = ((n, a) :: r : Cod)[x]? := fun x => by rw [← hr, List.getElem?_drop]
    have hd : c.drop (i + 1) = r := by rw [← List.drop_drop, hr]; rfl
    have ih := fun τ => pf_pss1 hq r (i + 1) τ hd
    rw [flt, pss1]
    unfold pstep
    by_cases e : q i = true
    · rw [if_pos e, if_pos e]
      refine Pres.trans ?_ (ih _)
      split
      · next τ' hf => exact pf_fold hf
      · by_cases hn : n = 10 ∧ nxl a r = true
        · rw [if_pos hn]
          have hx : nxl a (flt q r (i + 1)) = true := nxl_flt hn.2 (fun x hx => hq i a (i + 1 + x) (by have := hgi 0; rw [Nat.add_zero] at this; rw [this, hn.1]; rfl) e (by rw [show i + 1 + x = i + (x + 1) by omega, hgi]; simpa using hx))
          have := pf_x (P := τ.reverse) hx
          rw [hn.1]
          exact this
        · rw [if_neg hn]
          rw [show ((n, a) :: τ : Cod).reverse ++ flt q r (i + 1) = τ.reverse ++ (n, a) :: flt q r (i + 1) by simp]
          exact Pres.rf _
    · rw [if_neg e, if_neg e]
      exact ih τ
theorem pf_pss (c : Cod) : Pres c (pss c) := by
  intro hL hT
  have hvl : ∀ {i}, liv c i = true → SR c i := fun {i} h => by
    apply Classical.byContradiction
    intro z
    rw [liv_f z] at h
    cases h
  have h2 := pf_pss1 (q := liv c) (c := c) (fun i a t h1 h2 h3 => liv_t ((hvl h2).step ⟨10, a, h1, Or.inr ⟨by decide, lbl_uq hL h3⟩⟩)) c 0 [] rfl
  exact (pf_flt c).trans h2 hL hT
theorem pf_opts {c c' : Cod} (h : Opts c c') : Pres c c' := by
  obtain ⟨N, rfl⟩ := h
  induction N with
  | zero => exact Pres.rf _
  | succ N ih => exact ih.trans (pf_pss _)
theorem Typ.ne {c : Cod} {ht : Nat → Option Nat} (h : Typ c ht) : 0 < c.length := by
  obtain ⟨n, k, hc, -⟩ := h.2 0 0 h.1
  exact (List.getElem?_eq_some_iff.mp hc).1
-- when nothing goes
theorem pstep_c (b : Bool) (τ : Cod) (n : Nat) (a : Int32) (r : Cod) : (b = true ∧ pstep b τ n a r = (n, a) :: τ) ∨ (pstep b τ n a r).length ≤ τ.length := by
  unfold pstep
  by_cases e : b = true
  · rw [if_pos e]
    split
    · next h => exact Or.inr (fold1_len h)
    · split
      · exact Or.inr (Nat.le_refl _)
      · exact Or.inl ⟨e, rfl⟩
  · rw [if_neg e]
    exact Or.inr (Nat.le_refl _)
theorem pss1_all {q : Nat → Bool} : ∀ (r : Cod) (i : Nat) (τ : Cod), τ.length + r.length ≤ (pss1 q r i τ).length → pss1 q r i τ = r.reverse ++ τ ∧ ∀ x, x < r.length → q (i + x) = true
  | [], i, τ, _ => ⟨rfl, fun x hx => by simp at hx⟩
  | (n, a) :: r, i, τ, h => by
    rw [pss1] at h ⊢
    have h1 := pss1_len q r (i + 1) (pstep (q i) τ n a r)
    rcases pstep_c (q i) τ n a r with ⟨e, z⟩ | z
    · rw [z] at h ⊢
      obtain ⟨i1, i2⟩ := pss1_all r (i + 1) ((n, a) :: τ) (Nat.le_trans (show τ.length + 1 + r.length ≤ τ.length + (r.length + 1) by omega) h)
      refine ⟨by rw [i1]; simp, fun x hx => ?_⟩
      cases x with
      | zero => exact e
      | succ x => rw [show i + (x + 1) = i + 1 + x by omega]; exact i2 x (by simp only [List.length_cons] at hx; omega)
    · simp only [List.length_cons] at h
      omega
theorem pss_all {c : Cod} (h : c.length ≤ (pss c).length) : pss c = c ∧ ∀ i, i < c.length → SR c i := by
  unfold pss at h ⊢
  obtain ⟨h1, h2⟩ := pss1_all c 0 [] (by rw [List.length_reverse] at h; simpa using h)
  refine ⟨by rw [h1]; simp, fun i hi => ?_⟩
  have := h2 i hi
  rw [Nat.zero_add] at this
  apply Classical.byContradiction
  intro z
  rw [liv_f z] at this
  cases this
