/-! a code that is right ends -/
theorem len1 {σ : List Int32} (h : 1 ≤ (σ.length : Int)) : ∃ v r, σ = v :: r := by
  cases σ with
  | nil => simp at h
  | cons v r => exact ⟨v, r, rfl⟩
theorem len2 {σ : List Int32} (h : 2 ≤ (σ.length : Int)) : ∃ v w r, σ = v :: w :: r := by
  obtain ⟨v, r, rfl⟩ := len1 (by omega : 1 ≤ (σ.length : Int))
  obtain ⟨w, r, rfl⟩ := len1 (by simp only [List.length_cons] at h; omega : 1 ≤ (r.length : Int))
  exact ⟨v, w, r, rfl⟩
theorem len3 {σ : List Int32} (h : 3 ≤ (σ.length : Int)) : ∃ v w x r, σ = v :: w :: x :: r := by
  obtain ⟨v, w, r, rfl⟩ := len2 (by omega : 2 ≤ (σ.length : Int))
  obtain ⟨x, r, rfl⟩ := len1 (by simp only [List.length_cons] at h; omega : 1 ≤ (r.length : Int))
  exact ⟨v, w, x, r, rfl⟩
theorem mdo_ok {n : Nat} {k : Int32} {σ : List Int32} {loc wrd : Nat → Int32} (hn : n ≤ 20) (ha : argOK n k = true) (ht : tI n ≤ (σ.length : Int)) (hl : σ.length ≤ 60) : ∃ e, mdo n k σ loc wrd = some e ∧ (e.1 = 0 → (e.2.1.length : Int) = σ.length + (if n = 11 ∨ n = 12 then 0 else gI n)) := by
  have hn' : n = 0 ∨ n = 1 ∨ n = 2 ∨ n = 3 ∨ n = 4 ∨ n = 5 ∨ n = 6 ∨ n = 7 ∨ n = 8 ∨ n = 9 ∨ n = 10 ∨ n = 11 ∨ n = 12 ∨ n = 13 ∨ n = 14 ∨ n = 15 ∨ n = 16 ∨ n = 17 ∨ n = 18 ∨ n = 19 ∨ n = 20 := by omega
  rcases hn' with rfl | rfl | rfl | rfl | rfl | rfl | rfl | rfl | rfl | rfl | rfl | rfl | rfl | rfl | rfl | rfl | rfl | rfl | rfl | rfl | rfl
  · have hg : gI 0 = 1 := by decide
    exact ⟨_, by rw [mdo_0, if_pos (by omega)], fun _ => by show ((k :: σ : List Int32).length : Int) = _; rw [if_neg (by decide), hg]; (try simp only [List.length_cons]); omega⟩
  · have hg : gI 1 = 1 := by decide
    exact ⟨_, by rw [mdo_1, if_pos ⟨by omega, ha⟩], fun _ => by show ((loc k.toNatClampNeg :: σ : List Int32).length : Int) = _; rw [if_neg (by decide), hg]; (try simp only [List.length_cons]); omega⟩
  · have hg : gI 2 = -1 := by decide
    have hT : tI 2 = 1 := by decide
    rw [hT] at ht
    obtain ⟨v, r, rfl⟩ := len1 ht
    exact ⟨_, by rw [mdo_2, if_pos (show inR k 16 = true from ha)], fun _ => by show ((r : List Int32).length : Int) = _; rw [if_neg (by decide), hg]; (try simp only [List.length_cons]); omega⟩
  · have hg : gI 3 = 0 := by decide
    have hT : tI 3 = 1 := by decide
    rw [hT] at ht
    obtain ⟨v, r, rfl⟩ := len1 ht
    by_cases hc : isW v.toInt = true
    · exact ⟨(0, wrd v.toNatClampNeg :: r, loc, wrd), by refine (mdo_3 ..).trans ?_; rw [if_pos hc], fun _ => by show ((wrd v.toNatClampNeg :: r : List Int32).length : Int) = _; rw [if_neg (by decide), hg]; (try simp only [List.length_cons]); omega⟩
    · exact ⟨(2, 0 :: r, loc, wrd), by refine (mdo_3 ..).trans ?_; rw [if_neg hc], fun z => by cases z⟩
  · have hg : gI 4 = -2 := by decide
    have hT : tI 4 = 2 := by decide
    rw [hT] at ht
    obtain ⟨v, w, r, rfl⟩ := len2 ht
    by_cases hc : isW v.toInt = true
    · exact ⟨(0, r, loc, va_up wrd v.toNatClampNeg w), by refine (mdo_4 ..).trans ?_; rw [if_pos hc], fun _ => by show ((r : List Int32).length : Int) = _; rw [if_neg (by decide), hg]; (try simp only [List.length_cons]); omega⟩
    · exact ⟨(2, r, loc, wrd), by refine (mdo_4 ..).trans ?_; rw [if_neg hc], fun z => by cases z⟩
  · have hg : gI 5 = 0 := by decide
    have hT : tI 5 = 1 := by decide
    rw [hT] at ht
    obtain ⟨v, r, rfl⟩ := len1 ht
    exact ⟨_, rfl, fun _ => by show ((-v :: r : List Int32).length : Int) = _; rw [if_neg (by decide), hg]; (try simp only [List.length_cons]); omega⟩
  · have hg : gI 6 = 0 := by decide
    have hT : tI 6 = 1 := by decide
    rw [hT] at ht
    obtain ⟨v, r, rfl⟩ := len1 ht
    exact ⟨_, rfl, fun _ => by show (((v ^^^ (-1)) :: r : List Int32).length : Int) = _; rw [if_neg (by decide), hg]; (try simp only [List.length_cons]); omega⟩
  · have hg : gI 7 = -1 := by decide
    have hT : tI 7 = 2 := by decide
    rw [hT] at ht
    obtain ⟨v, w, r, rfl⟩ := len2 ht
    by_cases hc : (k = 3 ∨ k = 4) ∧ v = 0
    · exact ⟨(3, r, loc, wrd), by refine (mdo_7 ..).trans ?_; rw [if_pos (show inR k 11 = true from ha)]; rw [if_pos hc], fun z => by cases z⟩
    · exact ⟨(0, opr k.toNatClampNeg w v :: r, loc, wrd), by refine (mdo_7 ..).trans ?_; rw [if_pos (show inR k 11 = true from ha)]; rw [if_neg hc], fun _ => by show ((opr k.toNatClampNeg w v :: r : List Int32).length : Int) = _; rw [if_neg (by decide), hg]; (try simp only [List.length_cons]); omega⟩
  · have hg : gI 8 = -1 := by decide
    have hT : tI 8 = 2 := by decide
    rw [hT] at ht
    obtain ⟨v, w, r, rfl⟩ := len2 ht
    exact ⟨_, by rw [mdo_8, if_pos (show inR k 6 = true from ha)], fun _ => by show ((rI (rel k.toNatClampNeg w v) :: r : List Int32).length : Int) = _; rw [if_neg (by decide), hg]; (try simp only [List.length_cons]); omega⟩
  · have hg : gI 9 = 0 := by decide
    have hT : tI 9 = 2 := by decide
    rw [hT] at ht
    obtain ⟨v, w, r, rfl⟩ := len2 ht
    exact ⟨_, by rw [mdo_9, if_pos (show inR k 6 = true from ha)], fun _ => by show ((rI (rel k.toNatClampNeg w v) :: v :: r : List Int32).length : Int) = _; rw [if_neg (by decide), hg]; (try simp only [List.length_cons]); omega⟩
  · have hg : gI 10 = 0 := by decide
    exact ⟨_, rfl, fun _ => by show ((σ : List Int32).length : Int) = _; rw [if_neg (by decide), hg]; (try simp only [List.length_cons]); omega⟩
  · have hg : gI 11 = -1 := by decide
    have hT : tI 11 = 1 := by decide
    rw [hT] at ht
    obtain ⟨v, r, rfl⟩ := len1 ht
    exact ⟨_, rfl, fun _ => by show ((v :: r : List Int32).length : Int) = _; rw [if_pos (by decide)]; (try simp only [List.length_cons]); omega⟩
  · have hg : gI 12 = -1 := by decide
    have hT : tI 12 = 1 := by decide
    rw [hT] at ht
    obtain ⟨v, r, rfl⟩ := len1 ht
    exact ⟨_, rfl, fun _ => by show ((v :: r : List Int32).length : Int) = _; rw [if_pos (by decide)]; (try simp only [List.length_cons]); omega⟩
  · have hg : gI 13 = 0 := by decide
    exact ⟨_, rfl, fun _ => by show ((σ : List Int32).length : Int) = _; rw [if_neg (by decide), hg]; (try simp only [List.length_cons]); omega⟩
  · have hg : gI 14 = -1 := by decide
    have hT : tI 14 = 1 := by decide
    rw [hT] at ht
    obtain ⟨v, r, rfl⟩ := len1 ht
    exact ⟨_, rfl, fun _ => by show ((r : List Int32).length : Int) = _; rw [if_neg (by decide), hg]; (try simp only [List.length_cons]); omega⟩
  · have hg : gI 15 = 0 := by decide
    exact ⟨_, rfl, fun _ => by show ((σ : List Int32).length : Int) = _; rw [if_neg (by decide), hg]; (try simp only [List.length_cons]); omega⟩
  · have hg : gI 16 = 0 := by decide
    have hT : tI 16 = 1 := by decide
    rw [hT] at ht
    obtain ⟨v, r, rfl⟩ := len1 ht
    exact ⟨_, rfl, fun _ => by show ((v :: r : List Int32).length : Int) = _; rw [if_neg (by decide), hg]; (try simp only [List.length_cons]); omega⟩
  · have hg : gI 17 = 0 := by decide
    exact ⟨_, rfl, fun _ => by show ((σ : List Int32).length : Int) = _; rw [if_neg (by decide), hg]; (try simp only [List.length_cons]); omega⟩
  · have hg : gI 18 = 0 := by decide
    have hT : tI 18 = 1 := by decide
    rw [hT] at ht
    obtain ⟨v, r, rfl⟩ := len1 ht
    exact ⟨_, rfl, fun _ => by show ((v :: r : List Int32).length : Int) = _; rw [if_neg (by decide), hg]; (try simp only [List.length_cons]); omega⟩
  · have hg : gI 19 = -1 := by decide
    have hT : tI 19 = 2 := by decide
    rw [hT] at ht
    obtain ⟨v, w, r, rfl⟩ := len2 ht
    by_cases hc : isW (wAt w v) = true
    · exact ⟨(0, getb (wrd (wAt w v).toNat) v :: r, loc, wrd), by refine (mdo_19 ..).trans ?_; rw [if_pos hc], fun _ => by show ((getb (wrd (wAt w v).toNat) v :: r : List Int32).length : Int) = _; rw [if_neg (by decide), hg]; (try simp only [List.length_cons]); omega⟩
    · exact ⟨(2, 0 :: r, loc, wrd), by refine (mdo_19 ..).trans ?_; rw [if_neg hc], fun z => by cases z⟩
  · have hg : gI 20 = -3 := by decide
    have hT : tI 20 = 3 := by decide
    rw [hT] at ht
    obtain ⟨v, w, x, r, rfl⟩ := len3 ht
    by_cases hc : isW (wAt w v) = true
    · exact ⟨(0, r, loc, va_up wrd (wAt w v).toNat (setb (wrd (wAt w v).toNat) v x)), by refine (mdo_20 ..).trans ?_; rw [if_pos hc], fun _ => by show ((r : List Int32).length : Int) = _; rw [if_neg (by decide), hg]; (try simp only [List.length_cons]); omega⟩
    · exact ⟨(2, r, loc, wrd), by refine (mdo_20 ..).trans ?_; rw [if_neg hc], fun z => by cases z⟩
theorem cgo_ok {c : Cod} (hL : LabC c) {i n : Nat} {k : Int32} {σ : List Int32} {h : Int} (hc : c[i]? = some (n, k)) (h16 : n ≠ 16) (h17 : n ≠ 17) (hlen : n = 11 ∨ n = 12 ∨ n = 18 → 1 ≤ (σ.length : Int)) (hh : (σ.length : Int) = h + (if n = 11 ∨ n = 12 then 0 else gI n)) : ∃ i' σ2, cgo c i n k σ = some (i', σ2) ∧ Way c i h i' σ2.length := by
  obtain ⟨l1, l2, l3, l4, l5⟩ := hL i n k hc
  have hg := gIv
  have hg18 : gI 18 = 0 := by decide
  unfold cgo
  by_cases h10 : n = 10
  · obtain ⟨t, et⟩ := l4 (Or.inl h10)
    rw [if_neg (by omega)] at hh
    exact ⟨t, σ, by rw [if_pos h10, et], n, k, hc, Or.inr ⟨by unfold nx1; rw [hc]; dsimp only; rw [if_pos (Or.inl h10)]; exact et, by rw [if_neg (by omega)]; omega⟩⟩
  · by_cases h11 : n = 11 ∨ n = 12
    · obtain ⟨v, r, rfl⟩ := len1 (hlen (by omega))
      rw [if_pos h11] at hh
      simp only [List.length_cons] at hh
      have hgn : gI n = -1 := by rcases h11 with rfl | rfl <;> decide
      by_cases hv : (v = 0 ↔ n = 11)
      · obtain ⟨t, et⟩ := l4 (Or.inr h11)
        exact ⟨t, r, by rw [if_neg h10, if_pos h11]; dsimp only; rw [if_pos hv, et], n, k, hc, Or.inr ⟨by unfold nx1; rw [hc]; dsimp only; rw [if_pos (Or.inr h11)]; exact et, by rw [if_neg (by omega)]; omega⟩⟩
      · exact ⟨i + 1, r, by rw [if_neg h10, if_pos h11]; dsimp only; rw [if_neg hv], n, k, hc, Or.inl ⟨by unfold nx0; rw [hc]; dsimp only; rw [if_neg (by omega), if_neg (by omega)], by omega⟩⟩
    · rw [if_neg h11] at hh
      by_cases h18 : n = 18
      · obtain ⟨v, r, rfl⟩ := len1 (hlen (by omega))
        obtain ⟨k', hk⟩ := l5 h18
        obtain ⟨t, et⟩ := (hL _ _ _ hk).2.2.2.1 (by decide)
        rw [h18, hg18] at hh
        simp only [List.length_cons] at hh
        by_cases hv : v = k
        · exact ⟨t, r, by rw [if_neg h10, if_neg h11, if_pos h18]; dsimp only; rw [if_pos hv, hk]; dsimp only; rw [et], n, k, hc, Or.inr ⟨by unfold nx1; rw [hc]; dsimp only; rw [if_neg (by omega), if_pos h18, hk]; exact et, by rw [if_pos h18, h18, hg18]; omega⟩⟩
        · exact ⟨i + 2, v :: r, by rw [if_neg h10, if_neg h11, if_pos h18]; dsimp only; rw [if_neg hv], n, k, hc, Or.inl ⟨by unfold nx0; rw [hc]; dsimp only; rw [if_neg (by omega), if_pos h18], by rw [h18, hg18]; simp only [List.length_cons]; omega⟩⟩
      · exact ⟨i + 1, σ, by rw [if_neg h10, if_neg h11, if_neg h18], n, k, hc, Or.inl ⟨by unfold nx0; rw [hc]; dsimp only; rw [if_neg (by omega), if_neg h18], hh⟩⟩
theorem crun_ends {c : Cod} {ht : Nat → Option Nat} (hL : LabC c) (hT : Typ c ht) {rank : Nat → Nat} (hA : ∀ i, op c i ≠ 15 → Rc c i → ∀ t, Nx c i t → op c t ≠ 15 → rank t < rank i) : ∀ fu q i σ loc wrd, Reach c i σ.length → (if op c i = 15 then 0 else rank i + 1) ≤ q → ∃ N r, crun c N i σ loc wrd fu = some r := by
  intro fu
  induction fu using Nat.strongRecOn with
  | _ fu ihf =>
    intro q
    induction q using Nat.strongRecOn with
    | _ q ihq =>
      intro i σ loc wrd hr hq
      obtain ⟨h, eh, ei⟩ := hT.reach hr
      obtain ⟨n, k, hc, q1, q2, -⟩ := hT.2 i h ei
      obtain ⟨l1, l2, -⟩ := hL i n k hc
      have ehn : h = σ.length := by omega
      subst ehn
      have hl : ¬ 61 < σ.length := by omega
      have hop := op_at hc
      by_cases h16 : n = 16
      · have : tI 16 = 1 := by decide
        rw [h16, this] at q1
        obtain ⟨v, r, rfl⟩ := len1 q1
        exact ⟨1, _, by rw [crun_s hc hl, if_pos h16]⟩
      · by_cases h17 : n = 17
        · exact ⟨1, _, by rw [crun_s hc hl, if_neg h16, if_pos h17]⟩
        · by_cases h15 : n = 15 ∧ fu = 0
          · exact ⟨1, _, by rw [crun_s hc hl, if_neg h16, if_neg h17, if_pos h15]⟩
          · obtain ⟨⟨ev, σ', loc', wrd'⟩, hm, hlen⟩ := mdo_ok (loc := loc) (wrd := wrd) l1 l2 q1 (by omega)
            by_cases hev : 0 < ev
            · exact ⟨1, _, by rw [crun_s hc hl, if_neg h16, if_neg h17, if_neg h15, hm]; dsimp only; rw [if_pos hev]⟩
            · have hlen' := hlen (show ev = 0 by omega)
              dsimp only at hlen'
              have ht18 : n = 11 ∨ n = 12 ∨ n = 18 → 1 ≤ (σ'.length : Int) := fun z => by
                have a1 : tI 11 = 1 := by decide
                have a2 : tI 12 = 1 := by decide
                have a3 : tI 18 = 1 := by decide
                have a4 : gI 18 = 0 := by decide
                rcases z with rfl | rfl | rfl
                · rw [if_pos (by decide)] at hlen'; omega
                · rw [if_pos (by decide)] at hlen'; omega
                · rw [if_neg (by decide)] at hlen'; omega
              obtain ⟨i', σ2, hg, hw⟩ := cgo_ok (h := (σ.length : Int)) hL hc h16 h17 ht18 hlen'
              have hr' : Reach c i' σ2.length := hr.step hw
              have hnx : Nx c i i' := by
                obtain ⟨n2, k2, -, hw⟩ := hw
                rcases hw with ⟨e, -⟩ | ⟨e, -⟩
                · exact Or.inl e
                · exact Or.inr e
              have hgo : ∃ N r, crun c N i' σ2 loc' wrd' (if n = 15 then fu - 1 else fu) = some r := by
                by_cases e15 : n = 15
                · rw [if_pos e15]
                  exact ihf (fu - 1) (by omega) _ i' σ2 loc' wrd' hr' (Nat.le_refl _)
                · rw [if_neg e15]
                  rw [hop, if_neg e15] at hq
                  refine ihq (if op c i' = 15 then 0 else rank i' + 1) ?_ i' σ2 loc' wrd' hr' (Nat.le_refl _)
                  split
                  · omega
                  · next z => have := hA i (by rw [hop]; exact e15) ⟨_, hr⟩ i' hnx z; omega
              obtain ⟨N, r, hN⟩ := hgo
              refine ⟨N + 1, r, ?_⟩
              rw [crun_s hc hl, if_neg h16, if_neg h17, if_neg h15, hm]
              dsimp only
              rw [if_neg hev, hg]
              exact hN
theorem valid_ends {num arg : Nat → Int32} {sz : Nat} (hsz : sz ≤ 400) (h : Valid num arg sz) (fu : Nat) (loc wrd : Nat → Int32) : ∃ N r, crun (mkC num arg sz) N 0 [] loc wrd fu = some r := by
  obtain ⟨h0, h1, h2, rank, h3⟩ := h
  obtain ⟨ht, hT⟩ := Classical.not_not.mp h2
  exact crun_ends (LabOK_C hsz h1) hT h3 fu _ 0 [] loc wrd (Reach.zero _) (Nat.le_refl _)
