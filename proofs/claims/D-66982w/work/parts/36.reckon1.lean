/-! Generator: how deep the row is at each label: way, follow -/
def opn (N : Nat) : Nat := [0, 1, 3, 5, 6, 8, 9, 10, 11, 12, 13, 14, 15, 22, 19, 18, 17, 20, 21, 23, 24].getD N 0
theorem opn_ok : ∀ N, N ≤ 20 → stv 2 N = nI (opn N) ∧ opn N ≤ 24 ∧ opn N ≠ 16 ∧ grL.getD (opn N) 0 = stv 1 N := by decide +kernel
/-- the generator's arrays for this -/
abbrev RKN (b : Nat) (n : Nat → Nat) : Prop := n 11 = 1000 ∧ n 21 = 64 ∧ n 22 = 64 ∧ 100 ≤ n 23 ∧ b ≤ n 24 ∧ 100 ≤ n 19
def wsT (ws : List (Nat × Nat)) : List Int32 := ws.map fun x => nI (2 * x.1)
def wsD (ws : List (Nat × Nat)) : List Int32 := ws.map fun x => nI x.2
def RkI (c : Cod) (ht : Nat → Option Nat) (be dp : Nat → Int32) (ws : List (Nat × Nat)) (pend : Option Nat) : Prop :=
  (∀ i, i < c.length → be (2 * i) = 0 ∨ be (2 * i) = 1) ∧ (∀ x, x ∈ ws → ht x.1 = some x.2) ∧
  (∀ i t, i < c.length → be (2 * i) = 1 → Suc c i t → t < c.length → be (2 * t) = 1 ∨ (∃ d, (t, d) ∈ ws) ∨ pend = some t) ∧ (be 0 = 1 ∨ (∃ d, (0, d) ∈ ws) ∨ pend = some 0) ∧
  ws.length + cnt (fun i => be (2 * i)) c.length ≤ c.length ∧
  (∀ i lab, i < c.length → be (2 * i) = 1 → c[i]? = some (13, lab) → ∃ h, ht i = some h ∧ dp lab.toNatClampNeg = nI (h + 1))
theorem RkI.done {c : Cod} {ht : Nat → Option Nat} {be dp : Nat → Int32} {ws : List (Nat × Nat)} {t : Nat} (h : RkI c ht be dp ws (some t)) (ht1 : be (2 * t) = 1) : RkI c ht be dp ws none := by
  obtain ⟨h1, h2, h3, h4, h5, h6⟩ := h
  refine ⟨h1, h2, fun i x hi hb hs hx => ?_, ?_, h5, h6⟩
  · rcases h3 i x hi hb hs hx with q | q | q
    · exact Or.inl q
    · exact Or.inr (Or.inl q)
    · cases q; exact Or.inl ht1
  · rcases h4 with q | q | q
    · exact Or.inl q
    · exact Or.inr (Or.inl q)
    · cases q; exact Or.inl ht1
/-- one instruction more is come to -/
theorem RkI.go {c : Cod} {ht : Nat → Option Nat} {be dp dp' : Nat → Int32} {ws ws' : List (Nat × Nat)} {t : Nat} {pend : Option Nat} (h : RkI c ht be dp ws (some t)) (htl : t < c.length) (h0 : be (2 * t) = 0) (hw : ∀ x, x ∈ ws → x ∈ ws') (hw' : ∀ x, x ∈ ws' → x ∈ ws ∨ ht x.1 = some x.2) (hl : ws'.length ≤ ws.length + 1) (hs : ∀ x, Suc c t x → x < c.length → (∃ d, (x, d) ∈ ws') ∨ pend = some x)
    (hd : ∀ i lab, i < c.length → i ≠ t → be (2 * i) = 1 → c[i]? = some (13, lab) → dp' lab.toNatClampNeg = dp lab.toNatClampNeg) (hdt : ∀ lab, c[t]? = some (13, lab) → ∃ h, ht t = some h ∧ dp' lab.toNatClampNeg = nI (h + 1)) : RkI c ht (va_up be (2 * t) 1) dp' ws' pend ∧ cnt (fun i => va_up be (2 * t) 1 (2 * i)) c.length + 1 = cnt (fun i => be (2 * i)) c.length := by
  obtain ⟨h1, h2, h3, h4, h5, h6⟩ := h
  have hcn : cnt (fun i => va_up be (2 * t) 1 (2 * i)) c.length + 1 = cnt (fun i => be (2 * i)) c.length := by
    rw [up2i]
    exact cnt_up (f := fun i => be (2 * i)) (by decide) htl h0
  have hlv : ∀ i, va_up be (2 * t) 1 (2 * i) = if i = t then 1 else be (2 * i) := fun i => by
    by_cases e : i = t
    · subst e; rw [va_up_self, if_pos rfl]
    · rw [va_up_ne _ _ (by omega), if_neg e]
  have hm : ∀ i, be (2 * i) = 1 → va_up be (2 * t) 1 (2 * i) = 1 := fun i hi => by
    rw [hlv]; split
    · rfl
    · exact hi
  have hself : va_up be (2 * t) 1 (2 * t) = 1 := va_up_self _ _ _
  have mono : ∀ x, (∃ d, (x, d) ∈ ws) → ∃ d, (x, d) ∈ ws' := fun x ⟨d, hd⟩ => ⟨d, hw _ hd⟩
  refine ⟨⟨fun i hi => ?_, fun x hx => (hw' x hx).elim (h2 x) id, fun i x hi hb hsu hx => ?_, ?_, by omega, fun i lab hi hb hc => ?_⟩, hcn⟩
  · rw [hlv]; split
    · exact Or.inr rfl
    · exact h1 i hi
  · by_cases e : i = t
    · subst e
      exact Or.inr (hs x hsu hx)
    · rw [hlv, if_neg e] at hb
      rcases h3 i x hi hb hsu hx with q | q | q
      · exact Or.inl (hm x q)
      · exact Or.inr (Or.inl (mono x q))
      · cases q; exact Or.inl hself
  · rcases h4 with q | q | q
    · exact Or.inl (hm 0 q)
    · exact Or.inr (Or.inl (mono 0 q))
    · cases q; exact Or.inl hself
  · by_cases e : i = t
    · subst e; exact hdt lab hc
    · rw [hlv, if_neg e] at hb
      obtain ⟨hh, q1, q2⟩ := h6 i lab hi hb hc
      exact ⟨hh, q1, (hd i lab hi e hb hc).trans q2⟩

/-- the jump behind SAME is passed by -/
theorem RkI.skip {c : Cod} {ht : Nat → Option Nat} {be dp : Nat → Int32} {ws : List (Nat × Nat)} {t : Nat} (h : RkI c ht be dp ws (some (t + 1))) (hn : ∀ lab, c[t + 1]? ≠ some (13, lab)) (hs : ∀ x, Suc c (t + 1) x → x < c.length → (∃ d, (x, d) ∈ ws) ∨ some (t + 2) = some x) : RkI c ht (va_up be (2 * (t + 1)) 1) dp ws (some (t + 2)) ∧ cnt (fun i => va_up be (2 * (t + 1)) 1 (2 * i)) c.length ≤ cnt (fun i => be (2 * i)) c.length := by
  have h0 : be (2 * (t + 1)) = 1 ∨ ¬ be (2 * (t + 1)) = 1 := Classical.em _
  obtain ⟨h1, h2, h3, h4, h5, h6⟩ := h
  have hlv : ∀ i, va_up be (2 * (t + 1)) 1 (2 * i) = if i = t + 1 then 1 else be (2 * i) := fun i => by
    by_cases e : i = t + 1
    · subst e; rw [va_up_self, if_pos rfl]
    · rw [va_up_ne _ _ (by omega), if_neg e]
  have hm : ∀ i, be (2 * i) = 1 → va_up be (2 * (t + 1)) 1 (2 * i) = 1 := fun i hi => by
    rw [hlv]; split
    · rfl
    · exact hi
  have hself : va_up be (2 * (t + 1)) 1 (2 * (t + 1)) = 1 := va_up_self _ _ _
  have hcn : cnt (fun i => va_up be (2 * (t + 1)) 1 (2 * i)) c.length ≤ cnt (fun i => be (2 * i)) c.length := by
    rw [up2i]
    have gen : ∀ (f : Nat → Int32) (m : Nat), cnt (va_up f (t + 1) 1) m ≤ cnt f m := by
      intro f m
      induction m with
      | zero => exact Nat.le_refl _
      | succ m ih =>
        unfold cnt
        by_cases e : m = t + 1
        · rw [show va_up f (t + 1) 1 m = 1 from by rw [e]; exact va_up_self _ _ _, if_neg (by decide)]; omega
        · rw [va_up_ne _ _ e]; omega
    exact gen _ _
  refine ⟨⟨fun i hi => ?_, h2, fun i x hi hb hsu hx => ?_, ?_, by omega, fun i lab hi hb hc => ?_⟩, hcn⟩
  · rw [hlv]; split
    · exact Or.inr rfl
    · exact h1 i hi
  · by_cases e : i = t + 1
    · subst e
      exact Or.inr (hs x hsu hx)
    · rw [hlv, if_neg e] at hb
      rcases h3 i x hi hb hsu hx with q | q | q
      · exact Or.inl (hm x q)
      · exact Or.inr (Or.inl q)
      · cases q; exact Or.inl hself
  · rcases h4 with q | q | q
    · exact Or.inl (hm 0 q)
    · exact Or.inr (Or.inl q)
    · cases q
  · by_cases e : i = t + 1
    · subst e; exact absurd hc (hn lab)
    · rw [hlv, if_neg e] at hb
      exact h6 i lab hi hb hc
theorem RowIs.wT {f : Nat → Int32} {ws : List (Nat × Nat)} {j d : Nat} (h : RowIs f (wsT ws)) : RowIs (va_up f ws.length (nI (2 * j))) (wsT ((j, d) :: ws)) := by
  have := RowIs.push (v := nI (2 * j)) h
  rwa [show (wsT ws).length = ws.length from List.length_map _] at this
theorem RowIs.wD {f : Nat → Int32} {ws : List (Nat × Nat)} {j d : Nat} (h : RowIs f (wsD ws)) : RowIs (va_up f ws.length (nI d)) (wsD ((j, d) :: ws)) := by
  have := RowIs.push (v := nI d) h
  rwa [show (wsD ws).length = ws.length from List.length_map _] at this

set_option maxHeartbeats 4000000 in
theorem c_GN_way (l : Launch) {E : Bs} (hE : Hb E) {ρ : Nat → Nat} {g A : Nat → Nat → Int32} {n : Nat → Nat} {tx : Value} {wm : Nat} {x y : Int32} (hm : g 3 14 = nI wm) (hml : wm < 64) (h21 : n 21 = 64) (h22 : n 22 = 64) : CW l E DC AC y_GN_way b_GN_way 3 none ({ frames := 0, cells := 0, slots := 0, locals := 0 } : Room) [.ref (E.o 3), .int x, .int y] ρ g A n tx (fun r ρ' g' A' n' tx' => r = none ∧ ρ' = ρ ∧ g' = up2 g 3 14 (nI (wm + 1)) ∧ A' = va_up (va_up A 21 (va_up (A 21) wm x)) 22 (va_up (A 22) wm y) ∧ n' = n ∧ tx' = tx) := by
  refine CW.start [some (.ref (E.o 3)), some (.int x), some (.int y)] hE (by decide) (Nat.le_of_ble_eq_true rfl) rfl ?_
  intro p e s m args below meth c G
  refine v_aload_n G (decAt dd_GN_way 0 rfl) rfl ?_
  refine v_geti G (decAt dd_GN_way 1 rfl) f_GN_112 ?_
  refine v_ri (y := (nI wm)) hm ?_
  refine v_aload_n G (decAt dd_GN_way 2 rfl) rfl ?_
  refine v_geta G (decAt dd_GN_way 3 rfl) f_GN_31 ?_
  refine v_alen G 21 (decAt dd_GN_way 4 rfl) (by decide) ?_
  refine v_ri (y := (nI 64)) (by rw [h21]) ?_
  refine v_icmp_ne G 42 (decAt dd_GN_way 5 rfl) (by decide) (fun c9 => ?_) (fun c9 => ?_)
  · skip
    refine v_aload_n G (decAt dd_GN_way 20 rfl) rfl ?_
    refine v_geta G (decAt dd_GN_way 21 rfl) f_GN_31 ?_
    refine v_aload_n G (decAt dd_GN_way 22 rfl) rfl ?_
    refine v_geti G (decAt dd_GN_way 23 rfl) f_GN_112 ?_
    refine v_ri (y := (nI wm)) hm ?_
    refine v_iload_n G (decAt dd_GN_way 24 rfl) rfl ?_
    refine v_iast G 21 _ (decAt dd_GN_way 25 rfl) (by decide) rfl (by first | with_reducible rfl | with_reducible exact nI_1 _ | with_reducible exact nI_add _ _ | assumption) (by omega) ?_
    refine v_aload_n G (decAt dd_GN_way 26 rfl) rfl ?_
    refine v_geta G (decAt dd_GN_way 27 rfl) f_GN_34 ?_
    refine v_aload_n G (decAt dd_GN_way 28 rfl) rfl ?_
    refine v_geti G (decAt dd_GN_way 29 rfl) f_GN_112 ?_
    refine v_ri (y := (nI wm)) hm ?_
    refine v_iload_n G (decAt dd_GN_way 30 rfl) rfl ?_
    refine v_iast G 22 _ (decAt dd_GN_way 31 rfl) (by decide) rfl (by first | with_reducible rfl | with_reducible exact nI_1 _ | with_reducible exact nI_add _ _ | assumption) (by omega) ?_
    refine v_aload_n G (decAt dd_GN_way 32 rfl) rfl ?_
    refine v_dup G (decAt dd_GN_way 33 rfl) rfl ?_
    refine v_geti G (decAt dd_GN_way 34 rfl) f_GN_112 ?_
    refine v_ri (y := (nI wm)) hm ?_
    refine v_iconst G 1 (decAt dd_GN_way 35 rfl) (by decide) ?_
    refine v_iadd G (decAt dd_GN_way 36 rfl) ?_
    refine v_ri (y := (nI (wm + 1))) (nI_1 _) ?_
    refine v_puti G (decAt dd_GN_way 37 rfl) f_GN_112 rfl rfl rfl ?_
    exact v_vret G (decAt dd_GN_way 38 rfl) rfl ⟨rfl, rfl, rfl, rfl, rfl, rfl⟩
  · skip
    exact absurd c9 (fun z => by have := (nI_eq (a := wm) (b := 64) (by omega) (by omega)).mp z; omega)
set_option maxHeartbeats 4000000 in
theorem c_GN_follow (l : Launch) {E : Bs} (hE : Hb E) {ρ : Nat → Nat} {g A : Nat → Nat → Int32} {n : Nat → Nat} {tx : Value} {c : Cod} {ht : Nat → Option Nat} {ws : List (Nat × Nat)} {t h : Nat} (hn : RKN (2 * c.length) n) (hlen : c.length ≤ 64) (hT : Typ c ht) (hL : LabC c) (hC : CdI (A 11) c) (hN : g 1 1 = nI (2 * c.length)) (hW : WhI c (A 23)) (hF : g 3 14 = nI ws.length) (hR1 : RowIs (A 21) (wsT ws)) (hR2 : RowIs (A 22) (wsD ws)) (hI : RkI c ht (A 24) (A 19) ws (some t)) (hh : ht t = some h) : CW l E DC AC y_GN_follow b_GN_follow 8 none ({ frames := 1, cells := 0, slots := 0, locals := 22 } : Room) [.ref (E.o 3), .ref (E.o 1), .int (nI (2 * t)), .int (nI h)] ρ g A n tx (fun r ρ' g' A' n' tx' => r = none ∧ ∃ ws' : List (Nat × Nat), RkI c ht (A' 24) (A' 19) ws' none ∧ RowIs (A' 21) (wsT ws') ∧ RowIs (A' 22) (wsD ws') ∧ 2 * cnt (fun i => A' 24 (2 * i)) c.length + ws'.length ≤ 2 * cnt (fun i => A 24 (2 * i)) c.length + ws.length ∧ ρ' = ρ ∧ g' = up2 g 3 14 (nI ws'.length) ∧ (∀ i, i ≠ 19 → i ≠ 21 → i ≠ 22 → i ≠ 24 → A' i = A i) ∧ n' = n ∧ tx' = tx) := by
  obtain ⟨hb11, hb21, hb22, hb23, hb24, hb19⟩ := hn
  refine CW.start [some (.ref (E.o 3)), some (.ref (E.o 1)), some (.int (nI (2 * t))), some (.int (nI h)), none, none, none, none] hE (by decide) (Nat.le_of_ble_eq_true rfl) rfl ?_
  intro p e s m args below meth c1 G
  have J6 : ∀ (μ : Nat) (A1 : Nat → Nat → Int32) (t1 h1 : Nat) (ws1 : List (Nat × Nat)) (x6 x7 : Option Value), (∀ i, i ≠ 19 → i ≠ 21 → i ≠ 22 → i ≠ 24 → A1 i = A i) → RkI c ht (A1 24) (A1 19) ws1 (some t1) → ht t1 = some h1 → RowIs (A1 21) (wsT ws1) → RowIs (A1 22) (wsD ws1) → 2 * cnt (fun i => A1 24 (2 * i)) c.length + ws1.length ≤ 2 * cnt (fun i => A 24 (2 * i)) c.length + ws.length → cnt (fun i => A1 24 (2 * i)) c.length < μ → V p l e ({ frames := 1, cells := 0, slots := 0, locals := 22 } : Room) s m args below meth c1 8 (Sy E DC AC s.heap ρ (up2 g 3 14 (nI ws1.length)) A1 n tx) 0 0 (MQ below (QW E DC AC (fun r ρ' g' A' n' tx' => r = none ∧ ∃ ws' : List (Nat × Nat), RkI c ht (A' 24) (A' 19) ws' none ∧ RowIs (A' 21) (wsT ws') ∧ RowIs (A' 22) (wsD ws') ∧ 2 * cnt (fun i => A' 24 (2 * i)) c.length + ws'.length ≤ 2 * cnt (fun i => A 24 (2 * i)) c.length + ws.length ∧ ρ' = ρ ∧ g' = up2 g 3 14 (nI ws'.length) ∧ (∀ i, i ≠ 19 → i ≠ 21 → i ≠ 22 → i ≠ 24 → A' i = A i) ∧ n' = n ∧ tx' = tx)) args s 0 0 E.F) 6 [some (.ref (E.o 3)), some (.ref (E.o 1)), some (.int (nI (2 * t))), some (.int (nI h)), some (.int (nI (2 * t1))), some (.int (nI h1)), x6, x7] [] := by
    intro μ
    induction μ with
    | zero => intro A1 t1 h1 ws1 x6 x7 hfr hI hh hR1 hR2 hm hμ; exact absurd hμ (by omega)
    | succ μ ih =>
      intro A1 t1 h1 ws1 x6 x7 hfr hI hh hR1 hR2 hm hμ
      obtain ⟨N, x, hq, htk, hh60, hwy⟩ := hT.2 t1 h1 hh
      have hlt : t1 < c.length := (List.getElem?_eq_some_iff.mp hq).1
      obtain ⟨q1, q2, q3⟩ := hC t1 N x hq
      rw [← hfr 11 (by decide) (by decide) (by decide) (by decide)] at q1 q2
      obtain ⟨-, hao, h13, hlb, h18⟩ := hL t1 N x hq
      obtain ⟨o1, o2, o3, o4⟩ := opn_ok N q3
      have hwsl : ws1.length + cnt (fun i => A1 24 (2 * i)) c.length ≤ c.length := hI.2.2.2.2.1
      have ne := fun m (hm : m ≤ 20) (z : N ≠ m) => stv2_ne N q3 m hm z
      have hSn : ∀ x', Suc c t1 x' ↔ ((N ≠ 16 ∧ N ≠ 17 ∧ N ≠ 10 ∧ x' = t1 + 1) ∨ ((N = 10 ∨ N = 11 ∨ N = 12) ∧ lbl c x = some x')) := fun x' => ⟨fun ⟨n', k', e, h⟩ => by rw [hq] at e; cases e; exact h, fun h => ⟨N, x, hq, h⟩⟩
      -- heights behind it
      have hgo : ∀ t', nx0 c t1 = some t' → ∃ h2 : Nat, (h1 : Int) + gI N = h2 ∧ ht t' = some h2 := fun t' e => hwy t' _ ⟨N, x, hq, Or.inl ⟨e, rfl⟩⟩
      have hgo1 : ∀ t', nx1 c t1 = some t' → ∃ h2 : Nat, (h1 : Int) + gI N - (if N = 18 then 1 else 0) = h2 ∧ ht t' = some h2 := fun t' e => hwy t' _ ⟨N, x, hq, Or.inr ⟨e, rfl⟩⟩
      have hsum : ∀ h2 : Nat, (h1 : Int) + gI N = h2 → nI h1 + grL.getD (opn N) 0 = nI h2 := fun h2 e => by
        rw [o4]
        apply Int32.toInt_inj.mp
        have hb : h2 < 2147483648 := by have := hgt_toInt hh60 q3; have := (nI h1 + stv 1 N).toInt_lt; omega
        rw [hgt_toInt hh60 q3, nI_toInt hb, e]
      refine v_iload G (decAt dd_GN_follow 4 rfl) rfl ?_
      refine v_aload_n G (decAt dd_GN_follow 5 rfl) rfl ?_
      refine v_geti G (decAt dd_GN_follow 6 rfl) f_GN_121 ?_
      refine v_ri (y := (nI (2 * c.length))) ((up2_ne (by decide)).trans hN) ?_
      refine v_icmp_ge G 203 (decAt dd_GN_follow 7 rfl) (by decide) (fun c12 => ?_) (fun c12 => ?_)
      · skip
        exact absurd c12 (nI_ge (by omega) (by omega))
      · skip
        refine v_aload_n G (decAt dd_GN_follow 8 rfl) rfl ?_
        refine v_geta G (decAt dd_GN_follow 9 rfl) f_GN_40 ?_
        refine v_iload G (decAt dd_GN_follow 10 rfl) rfl ?_
        refine v_zald G 24 (2 * t1) (decAt dd_GN_follow 11 rfl) (by decide) rfl rfl (by omega) ?_
        refine v_if_ne G 203 (decAt dd_GN_follow 12 rfl) (by decide) (fun c22 => ?_) (fun c22 => ?_)
        · skip
          exact v_vret G (decAt dd_GN_follow 108 rfl) rfl ⟨rfl, ws1, hI.done ((hI.1 t1 hlt).resolve_left c22), hR1, hR2, hm, rfl, rfl, hfr, rfl, rfl⟩
        · skip
          refine v_aload_n G (decAt dd_GN_follow 13 rfl) rfl ?_
          refine v_geta G (decAt dd_GN_follow 14 rfl) f_GN_40 ?_
          refine v_iload G (decAt dd_GN_follow 15 rfl) rfl ?_
          refine v_iconst G 1 (decAt dd_GN_follow 16 rfl) (by decide) ?_
          refine v_zast G 24 (2 * t1) (decAt dd_GN_follow 17 rfl) (by decide) rfl rfl (by omega) rfl ?_
          refine v_aload_n G (decAt dd_GN_follow 18 rfl) rfl ?_
          refine v_geta G (decAt dd_GN_follow 19 rfl) f_GN_127 ?_
          refine v_iload G (decAt dd_GN_follow 20 rfl) rfl ?_
          refine v_iald G 11 (2 * t1) (decAt dd_GN_follow 21 rfl) (by decide) rfl rfl (by omega) ?_
          refine v_ri (y := stv 2 N) q1 ?_
          refine v_istore_6 G (decAt dd_GN_follow 22 rfl) (by decide) rfl ?_
          refine v_aload_n G (decAt dd_GN_follow 23 rfl) rfl ?_
          refine v_geta G (decAt dd_GN_follow 24 rfl) f_GN_127 ?_
          refine v_iload G (decAt dd_GN_follow 25 rfl) rfl ?_
          refine v_iconst G 1 (decAt dd_GN_follow 26 rfl) (by decide) ?_
          refine v_iadd G (decAt dd_GN_follow 27 rfl) ?_
          refine v_ri (y := (nI (2 * t1 + 1))) (nI_1 _) ?_
          refine v_iald G 11 (2 * t1 + 1) (decAt dd_GN_follow 28 rfl) (by decide) rfl rfl (by omega) ?_
          refine v_ri (y := x) q2 ?_
          refine v_istore_7 G (decAt dd_GN_follow 29 rfl) (by decide) rfl ?_
          have h0 : A1 24 (2 * t1) = 0 := by first | exact c22 | exact Classical.not_not.mp c22
          have hcp : 0 < cnt (fun i => A1 24 (2 * i)) c.length := by have := cnt_up (f := fun i => A1 24 (2 * i)) (v := 1) (by decide) hlt h0; omega
          by_cases hs : N = 16 ∨ N = 17
          · skip
            have hk := hI.go (dp' := A1 19) (ws' := ws1) (pend := none) hlt h0 (fun _ h => h) (fun _ h => Or.inl h) (by omega) (fun x' hx => absurd ((hSn x').mp hx) (by omega)) (fun _ _ _ _ _ _ => rfl) (fun lab e => by rw [hq] at e; cases e; omega)
            rcases hs with rfl | rfl
            · skip
              refine v_L (L' := [some (.ref (E.o 3)), some (.ref (E.o 1)), some (.int (nI (2 * t))), some (.int (nI h)), some (.int (nI (2 * t1))), some (.int (nI h1)), some (.int 17), some (.int x)]) (fun _ _ z => z) ?_
              refine v_iload G (decAt dd_GN_follow 30 rfl) rfl ?_
              refine v_bipush G 17 (decAt dd_GN_follow 31 rfl) (by decide) ?_
              refine v_icmp_eq G 67 (decAt dd_GN_follow 32 rfl) (by decide) (fun _ => ?_) (fun c57 => absurd c57 (by decide))
              exact v_vret G (decAt dd_GN_follow 36 rfl) rfl ⟨rfl, ws1, hk.1, hR1, hR2, by have := hk.2; show 2 * cnt (fun i => va_up (A1 24) (2 * t1) 1 (2 * i)) c.length + _ ≤ _; omega, rfl, rfl, fun i h1 h2 h3 h4 => by rw [va_up_ne _ _ h4]; exact hfr i h1 h2 h3 h4, rfl, rfl⟩
            · skip
              refine v_L (L' := [some (.ref (E.o 3)), some (.ref (E.o 1)), some (.int (nI (2 * t))), some (.int (nI h)), some (.int (nI (2 * t1))), some (.int (nI h1)), some (.int 20), some (.int x)]) (fun _ _ z => z) ?_
              refine v_iload G (decAt dd_GN_follow 30 rfl) rfl ?_
              refine v_bipush G 17 (decAt dd_GN_follow 31 rfl) (by decide) ?_
              refine v_icmp_eq G 67 (decAt dd_GN_follow 32 rfl) (by decide) (fun c57 => absurd c57 (by decide)) (fun _ => ?_)
              refine v_iload G (decAt dd_GN_follow 33 rfl) rfl ?_
              refine v_bipush G 20 (decAt dd_GN_follow 34 rfl) (by decide) ?_
              refine v_icmp_ne G 68 (decAt dd_GN_follow 35 rfl) (by decide) (fun c64 => absurd c64 (by decide)) (fun _ => ?_)
              exact v_vret G (decAt dd_GN_follow 36 rfl) rfl ⟨rfl, ws1, hk.1, hR1, hR2, by have := hk.2; show 2 * cnt (fun i => va_up (A1 24) (2 * t1) 1 (2 * i)) c.length + _ ≤ _; omega, rfl, rfl, fun i h1 h2 h3 h4 => by rw [va_up_ne _ _ h4]; exact hfr i h1 h2 h3 h4, rfl, rfl⟩
          · skip
            have e0 : ¬ (N = 18) → nx0 c t1 = if N = 10 then none else some (t1 + 1) := fun hz => by unfold nx0; rw [hq]; dsimp only; by_cases z : N = 10; rw [if_pos (Or.inr (Or.inr z)), if_pos z]; rw [if_neg (by omega), if_neg hz, if_neg z]
            by_cases hb13 : N = 13
            · skip
              subst hb13
              obtain ⟨y, hy1, hy2, hy3⟩ := inR_nI (argOK_lab hao (by omega))
              obtain ⟨h2, e2, hh2⟩ := hgo (t1 + 1) ((e0 (by decide)).trans (if_neg (by decide)))
              have hk := hI.go (dp' := va_up (A1 19) y (nI (h1 + 1))) (ws' := ws1) (pend := some (t1 + 1)) hlt h0 (fun _ h => h) (fun _ h => Or.inl h) (by omega) (fun x' hx _ => ((hSn x').mp hx).elim (fun h => Or.inr (by rw [h.2.2.2])) (fun h => absurd h.1 (by decide))) (fun i lab hi hne hb hc => va_up_ne _ _ (fun z => hne (by
                obtain ⟨-, hao2, h132, -, -⟩ := hL i 13 lab hc
                have hlx : lab = x := i32_cl (argOK_lab hao2 (by omega)) (argOK_lab hao (by omega)) (z.trans hy3.symm)
                have h1 := h132 rfl
                rw [hlx, h13 rfl] at h1
                exact (Option.some.inj h1).symm))) (fun lab e => ⟨h1, hh, by rw [hq] at e; cases e; rw [hy3]; exact va_up_self _ _ _⟩)
              refine v_L (L' := [some (.ref (E.o 3)), some (.ref (E.o 1)), some (.int (nI (2 * t))), some (.int (nI h)), some (.int (nI (2 * t1))), some (.int (nI h1)), some (.int 22), some (.int (nI y))]) (fun _ _ z => by rw [hy2]; exact z) ?_
              refine v_iload G (decAt dd_GN_follow 30 rfl) rfl ?_
              refine v_bipush G 17 (decAt dd_GN_follow 31 rfl) (by decide) ?_
              refine v_icmp_eq G 67 (decAt dd_GN_follow 32 rfl) (by decide) (fun c57 => absurd c57 (by decide)) (fun _ => ?_)
              refine v_iload G (decAt dd_GN_follow 33 rfl) rfl ?_
              refine v_bipush G 20 (decAt dd_GN_follow 34 rfl) (by decide) ?_
              refine v_icmp_ne G 68 (decAt dd_GN_follow 35 rfl) (by decide) (fun _ => ?_) (fun c64 => absurd c64 (by decide))
              refine v_iload G (decAt dd_GN_follow 37 rfl) rfl ?_
              refine v_bipush G 22 (decAt dd_GN_follow 38 rfl) (by decide) ?_
              refine v_icmp_ne G 86 (decAt dd_GN_follow 39 rfl) (by decide) (fun c72 => absurd c72 (by decide)) (fun _ => ?_)
              refine v_aload_n G (decAt dd_GN_follow 40 rfl) rfl ?_
              refine v_geta G (decAt dd_GN_follow 41 rfl) f_GN_25 ?_
              refine v_iload G (decAt dd_GN_follow 42 rfl) rfl ?_
              refine v_iload G (decAt dd_GN_follow 43 rfl) rfl ?_
              refine v_iconst G 1 (decAt dd_GN_follow 44 rfl) (by decide) ?_
              refine v_iadd G (decAt dd_GN_follow 45 rfl) ?_
              refine v_ri (y := (nI (h1 + 1))) (nI_1 _) ?_
              refine v_iast G 19 y (decAt dd_GN_follow 46 rfl) (by decide) rfl rfl (by omega) ?_
              refine v_iload G (decAt dd_GN_follow 47 rfl) rfl ?_
              refine v_bipush G 21 (decAt dd_GN_follow 48 rfl) (by decide) ?_
              refine v_icmp_ne G 131 (decAt dd_GN_follow 49 rfl) (by decide) (fun _ => ?_) (fun c90 => absurd c90 (by decide))
              refine v_iload G (decAt dd_GN_follow 73 rfl) rfl ?_
              refine v_iload G (decAt dd_GN_follow 74 rfl) rfl ?_
              refine v_iload G (decAt dd_GN_follow 75 rfl) rfl ?_
              refine p_callSi G (XB_Sy G) (As := [.int (nI 22), .int (nI y)]) (decAt dd_GN_follow 76 rfl) k_GN_138 (c_GN_grows l hE o2 o3) rfl rfl (Nat.le_of_ble_eq_true rfl) (by decide) rfl rfl (by decide) ?_
              refine v_iadd G (decAt dd_GN_follow 77 rfl) ?_
              refine v_ri (y := (nI h2)) (hsum h2 e2) ?_
              refine v_istore_5 G (decAt dd_GN_follow 78 rfl) (by decide) rfl ?_
              refine v_iload G (decAt dd_GN_follow 79 rfl) rfl ?_
              refine v_bipush G 14 (decAt dd_GN_follow 80 rfl) (by decide) ?_
              refine v_icmp_eq G 157 (decAt dd_GN_follow 81 rfl) (by decide) (fun c147 => absurd c147 (by decide)) (fun _ => ?_)
              refine v_iload G (decAt dd_GN_follow 82 rfl) rfl ?_
              refine v_bipush G 15 (decAt dd_GN_follow 83 rfl) (by decide) ?_
              refine v_icmp_ne G 170 (decAt dd_GN_follow 84 rfl) (by decide) (fun _ => ?_) (fun c154 => absurd c154 (by decide))
              refine v_iload G (decAt dd_GN_follow 92 rfl) rfl ?_
              refine v_bipush G 13 (decAt dd_GN_follow 93 rfl) (by decide) ?_
              refine v_icmp_eq G 184 (decAt dd_GN_follow 94 rfl) (by decide) (fun c174 => absurd c174 (by decide)) (fun _ => ?_)
              refine v_iload G (decAt dd_GN_follow 95 rfl) rfl ?_
              refine v_bipush G 25 (decAt dd_GN_follow 96 rfl) (by decide) ?_
              refine v_icmp_ne G 194 (decAt dd_GN_follow 97 rfl) (by decide) (fun _ => ?_) (fun c181 => absurd c181 (by decide))
              refine v_iload G (decAt dd_GN_follow 103 rfl) rfl ?_
              refine v_iconst G 2 (decAt dd_GN_follow 104 rfl) (by decide) ?_
              refine v_iadd G (decAt dd_GN_follow 105 rfl) ?_
              refine v_ri (y := (nI (2 * (t1 + 1)))) (nI_add (2 * t1) 2) ?_
              refine v_istore_4 G (decAt dd_GN_follow 106 rfl) (by decide) rfl ?_
              refine v_goto G 6 (decAt dd_GN_follow 107 rfl) (by decide) ?_
              exact ih _ (t1 + 1) h2 ws1 _ _ (fun i h1 h2 h3 h4 => by rw [va_up_ne _ _ h1, va_up_ne _ _ h4]; exact hfr i h1 h2 h3 h4) hk.1 hh2 hR1 hR2 (by have := hk.2; show 2 * cnt (fun i => va_up (A1 24) (2 * t1) 1 (2 * i)) c.length + _ ≤ _; omega) (by have := hk.2; show cnt (fun i => va_up (A1 24) (2 * t1) 1 (2 * i)) c.length < μ; omega)
            · skip
              have hdt : ∀ lab, c[t1]? = some (13, lab) → ∃ h, ht t1 = some h ∧ A1 19 lab.toNatClampNeg = nI (h + 1) := fun lab e => by rw [hq] at e; cases e; exact absurd rfl hb13
              by_cases hb18 : N = 18
              · skip
                subst hb18
                obtain ⟨k', hk'⟩ := h18 rfl
                obtain ⟨p1, p2, p3⟩ := hC (t1 + 1) 12 k' hk'
                rw [← hfr 11 (by decide) (by decide) (by decide) (by decide)] at p2
                have hl1 : t1 + 1 < c.length := (List.getElem?_eq_some_iff.mp hk').1
                obtain ⟨-, hao2, -, hlb2, -⟩ := hL (t1 + 1) 12 k' hk'
                obtain ⟨j, hj⟩ := hlb2 (by omega)
                obtain ⟨y, hy1, hy2, hy3⟩ := inR_nI (argOK_lab hao2 (by omega))
                have hWj : A1 23 y = nI (2 * j) := by rw [hfr 23 (by decide) (by decide) (by decide) (by decide), ← hy3]; exact hW k' j hj
                have hjl : j < c.length := lbl_lt hj
                have g18 : gI 18 = 0 := by decide
                obtain ⟨h2, e2, hh2⟩ := hgo (t1 + 2) (by unfold nx0; rw [hq]; rfl)
                obtain ⟨h3, e3, hh3⟩ := hgo1 j (by unfold nx1; rw [hq]; dsimp only; rw [if_neg (by decide), if_pos rfl, hk']; exact hj)
                rw [if_pos rfl] at e3
                have eh2 : h2 = h1 := by omega
                subst eh2
                have eh3 : h2 = h3 + 1 := by omega
                have hSn2 : ∀ x', Suc c (t1 + 1) x' → x' = t1 + 2 ∨ x' = j := fun x' ⟨n', k2, e, h⟩ => by
                  rw [hk'] at e; cases e
                  exact h.elim (fun z => Or.inl z.2.2.2) (fun z => Or.inr (Option.some.inj (z.2.symm.trans hj)))
                have hpre : RkI c ht (va_up (A1 24) (2 * (t1 + 1)) 1) (A1 19) ((j, h3) :: ws1) (some t1) ∨ True := Or.inr trivial
                have hk := hI.go (dp' := A1 19) (ws' := (j, h3) :: ws1) (pend := some (t1 + 1)) hlt h0 (fun _ h => List.mem_cons_of_mem _ h) (fun x' h => (List.mem_cons.mp h).elim (fun e => Or.inr (by rw [e]; exact hh3)) Or.inl) (Nat.le_refl _) (fun x' hx _ => ((hSn x').mp hx).elim (fun h => Or.inr (by rw [h.2.2.2])) (fun h => absurd h.1 (by decide))) (fun _ _ _ _ _ _ => rfl) hdt
                have hk2 : RkI c ht (va_up (va_up (A1 24) (2 * t1) 1) (2 * (t1 + 1)) 1) (A1 19) ((j, h3) :: ws1) (some (t1 + 2)) ∧ cnt (fun i => va_up (va_up (A1 24) (2 * t1) 1) (2 * (t1 + 1)) 1 (2 * i)) c.length ≤ cnt (fun i => va_up (A1 24) (2 * t1) 1 (2 * i)) c.length := by
                  refine hk.1.skip (fun lab e => by rw [hk'] at e; cases e) (fun x' hx hxl => (hSn2 x' hx).elim (fun e => Or.inr (by rw [e])) (fun e => Or.inl ⟨h3, by rw [e]; exact List.mem_cons_self⟩))
                refine v_L (L' := [some (.ref (E.o 3)), some (.ref (E.o 1)), some (.int (nI (2 * t))), some (.int (nI h)), some (.int (nI (2 * t1))), some (.int (nI h2)), some (.int 21), some (.int x)]) (fun _ _ z => z) ?_
                refine v_iload G (decAt dd_GN_follow 30 rfl) rfl ?_
                refine v_bipush G 17 (decAt dd_GN_follow 31 rfl) (by decide) ?_
                refine v_icmp_eq G 67 (decAt dd_GN_follow 32 rfl) (by decide) (fun c57 => absurd c57 (by decide)) (fun _ => ?_)
                refine v_iload G (decAt dd_GN_follow 33 rfl) rfl ?_
                refine v_bipush G 20 (decAt dd_GN_follow 34 rfl) (by decide) ?_
                refine v_icmp_ne G 68 (decAt dd_GN_follow 35 rfl) (by decide) (fun _ => ?_) (fun c64 => absurd c64 (by decide))
                refine v_iload G (decAt dd_GN_follow 37 rfl) rfl ?_
                refine v_bipush G 22 (decAt dd_GN_follow 38 rfl) (by decide) ?_
                refine v_icmp_ne G 86 (decAt dd_GN_follow 39 rfl) (by decide) (fun _ => ?_) (fun c72 => absurd c72 (by decide))
                refine v_iload G (decAt dd_GN_follow 47 rfl) rfl ?_
                refine v_bipush G 21 (decAt dd_GN_follow 48 rfl) (by decide) ?_
                refine v_icmp_ne G 131 (decAt dd_GN_follow 49 rfl) (by decide) (fun c90 => absurd c90 (by decide)) (fun _ => ?_)
                refine v_aload_n G (decAt dd_GN_follow 50 rfl) rfl ?_
                refine v_aload_n G (decAt dd_GN_follow 51 rfl) rfl ?_
                refine v_geta G (decAt dd_GN_follow 52 rfl) f_GN_37 ?_
                refine v_aload_n G (decAt dd_GN_follow 53 rfl) rfl ?_
                refine v_geta G (decAt dd_GN_follow 54 rfl) f_GN_127 ?_
                refine v_iload G (decAt dd_GN_follow 55 rfl) rfl ?_
                refine v_iconst G 3 (decAt dd_GN_follow 56 rfl) (by decide) ?_
                refine v_iadd G (decAt dd_GN_follow 57 rfl) ?_
                refine v_ri (y := (nI (2 * (t1 + 1) + 1))) (nI_add (2 * t1) 3) ?_
                refine v_iald G 11 (2 * (t1 + 1) + 1) (decAt dd_GN_follow 58 rfl) (by decide) rfl rfl (by omega) ?_
                refine v_ri (y := nI y) (p2.trans hy2) ?_
                refine v_iald G 23 y (decAt dd_GN_follow 59 rfl) (by decide) rfl rfl (by omega) ?_
                refine v_ri (y := nI (2 * j)) hWj ?_
                refine v_iload G (decAt dd_GN_follow 60 rfl) rfl ?_
                refine v_iconst G 1 (decAt dd_GN_follow 61 rfl) (by decide) ?_
                refine v_isub G (decAt dd_GN_follow 62 rfl) ?_
                refine v_ri (y := (nI h3)) (by rw [eh3]; exact nI_pred h3) ?_
                refine v_callVvk G (As := [.int (nI (2 * j)), .int (nI h3)]) (decAt dd_GN_follow 63 rfl) k_GN_130 (c_GN_way l hE (wm := ws1.length) up2_self (by omega) hb21 hb22) (by decide) rfl rfl rfl (Nat.le_of_ble_eq_true rfl) (by decide) rfl rfl (by decide) ?_
                refine v_stg (up2_up2 _ _ _ _ _) ?_
                refine v_aload_n G (decAt dd_GN_follow 64 rfl) rfl ?_
                refine v_geta G (decAt dd_GN_follow 65 rfl) f_GN_40 ?_
                refine v_iload G (decAt dd_GN_follow 66 rfl) rfl ?_
                refine v_iconst G 2 (decAt dd_GN_follow 67 rfl) (by decide) ?_
                refine v_iadd G (decAt dd_GN_follow 68 rfl) ?_
                refine v_ri (y := (nI (2 * (t1 + 1)))) (nI_add (2 * t1) 2) ?_
                refine v_iconst G 1 (decAt dd_GN_follow 69 rfl) (by decide) ?_
                refine v_zast G 24 (2 * (t1 + 1)) (decAt dd_GN_follow 70 rfl) (by decide) rfl rfl (by omega) rfl ?_
                refine v_iinc_4 G (nI (2 * (t1 + 2))) (decAt dd_GN_follow 71 rfl) ((nI_add (2 * t1) 4)) (by decide) rfl ?_
                refine v_goto G 6 (decAt dd_GN_follow 72 rfl) (by decide) ?_
                refine ih _ (t1 + 2) h2 ((j, h3) :: ws1) _ _ (fun i h1 h2 h3 h4 => by rw [va_up_ne _ _ h4, va_up_ne _ _ h3, va_up_ne _ _ h2, va_up_ne _ _ h4]; exact hfr i h1 h2 h3 h4) hk2.1 hh2 (RowIs.wT hR1) (RowIs.wD hR2) ?_ ?_
                · have := hk.2
                  have := hk2.2
                  show 2 * cnt (fun i => va_up (va_up (A1 24) (2 * t1) 1) (2 * (t1 + 1)) 1 (2 * i)) c.length + (ws1.length + 1) ≤ _
                  omega
                · have := hk.2
                  have := hk2.2
                  show cnt (fun i => va_up (va_up (A1 24) (2 * t1) 1) (2 * (t1 + 1)) 1 (2 * i)) c.length < μ
                  omega
              · skip
                by_cases hb : N = 11 ∨ N = 12
                · skip
                  obtain ⟨j, hj⟩ := hlb (by omega)
                  obtain ⟨y, hy1, hy2, hy3⟩ := inR_nI (argOK_lab hao (by omega))
                  have hWj : A1 23 y = nI (2 * j) := by rw [hfr 23 (by decide) (by decide) (by decide) (by decide), ← hy3]; exact hW x j hj
                  have hjl : j < c.length := lbl_lt hj
                  obtain ⟨h2, e2, hh2⟩ := hgo (t1 + 1) ((e0 hb18).trans (if_neg (by omega)))
                  obtain ⟨h3, e3, hh3⟩ := hgo1 j (by unfold nx1; rw [hq]; dsimp only; rw [if_pos (by omega)]; exact hj)
                  rw [if_neg hb18] at e3
                  have eh3 : h3 = h2 := by omega
                  subst eh3
                  have hk := hI.go (dp' := A1 19) (ws' := (j, h3) :: ws1) (pend := some (t1 + 1)) hlt h0 (fun _ h => List.mem_cons_of_mem _ h) (fun x' h => (List.mem_cons.mp h).elim (fun e => Or.inr (by rw [e]; exact hh3)) Or.inl) (Nat.le_refl _) (fun x' hx _ => ((hSn x').mp hx).elim (fun h => Or.inr (by rw [h.2.2.2])) (fun h => Or.inl ⟨h3, by rw [show x' = j from Option.some.inj (h.2.symm.trans hj)]; exact List.mem_cons_self⟩)) (fun _ _ _ _ _ _ => rfl) hdt
                  rcases hb with rfl | rfl
                  · skip
                    refine v_L (L' := [some (.ref (E.o 3)), some (.ref (E.o 1)), some (.int (nI (2 * t))), some (.int (nI h)), some (.int (nI (2 * t1))), some (.int (nI h1)), some (.int 14), some (.int (nI y))]) (fun _ _ z => by rw [hy2]; exact z) ?_
                    refine v_iload G (decAt dd_GN_follow 30 rfl) rfl ?_
                    refine v_bipush G 17 (decAt dd_GN_follow 31 rfl) (by decide) ?_
                    refine v_icmp_eq G 67 (decAt dd_GN_follow 32 rfl) (by decide) (fun c57 => absurd c57 (by decide)) (fun _ => ?_)
                    refine v_iload G (decAt dd_GN_follow 33 rfl) rfl ?_
                    refine v_bipush G 20 (decAt dd_GN_follow 34 rfl) (by decide) ?_
                    refine v_icmp_ne G 68 (decAt dd_GN_follow 35 rfl) (by decide) (fun _ => ?_) (fun c64 => absurd c64 (by decide))
                    refine v_iload G (decAt dd_GN_follow 37 rfl) rfl ?_
                    refine v_bipush G 22 (decAt dd_GN_follow 38 rfl) (by decide) ?_
                    refine v_icmp_ne G 86 (decAt dd_GN_follow 39 rfl) (by decide) (fun _ => ?_) (fun c72 => absurd c72 (by decide))
                    refine v_iload G (decAt dd_GN_follow 47 rfl) rfl ?_
                    refine v_bipush G 21 (decAt dd_GN_follow 48 rfl) (by decide) ?_
                    refine v_icmp_ne G 131 (decAt dd_GN_follow 49 rfl) (by decide) (fun _ => ?_) (fun c90 => absurd c90 (by decide))
                    refine v_iload G (decAt dd_GN_follow 73 rfl) rfl ?_
                    refine v_iload G (decAt dd_GN_follow 74 rfl) rfl ?_
                    refine v_iload G (decAt dd_GN_follow 75 rfl) rfl ?_
                    refine p_callSi G (XB_Sy G) (As := [.int (nI 14), .int (nI y)]) (decAt dd_GN_follow 76 rfl) k_GN_138 (c_GN_grows l hE o2 o3) rfl rfl (Nat.le_of_ble_eq_true rfl) (by decide) rfl rfl (by decide) ?_
                    refine v_iadd G (decAt dd_GN_follow 77 rfl) ?_
                    refine v_ri (y := (nI h3)) (hsum h3 e2) ?_
                    refine v_istore_5 G (decAt dd_GN_follow 78 rfl) (by decide) rfl ?_
                    refine v_iload G (decAt dd_GN_follow 79 rfl) rfl ?_
                    refine v_bipush G 14 (decAt dd_GN_follow 80 rfl) (by decide) ?_
                    refine v_icmp_eq G 157 (decAt dd_GN_follow 81 rfl) (by decide) (fun _ => ?_) (fun c147 => absurd c147 (by decide))
                    refine v_aload_n G (decAt dd_GN_follow 85 rfl) rfl ?_
                    refine v_aload_n G (decAt dd_GN_follow 86 rfl) rfl ?_
                    refine v_geta G (decAt dd_GN_follow 87 rfl) f_GN_37 ?_
                    refine v_iload G (decAt dd_GN_follow 88 rfl) rfl ?_
                    refine v_iald G 23 y (decAt dd_GN_follow 89 rfl) (by decide) rfl rfl (by omega) ?_
                    refine v_ri (y := nI (2 * j)) hWj ?_
                    refine v_iload G (decAt dd_GN_follow 90 rfl) rfl ?_
                    refine v_callVvk G (As := [.int (nI (2 * j)), .int (nI h3)]) (decAt dd_GN_follow 91 rfl) k_GN_130 (c_GN_way l hE (wm := ws1.length) up2_self (by omega) hb21 hb22) (by decide) rfl rfl rfl (Nat.le_of_ble_eq_true rfl) (by decide) rfl rfl (by decide) ?_
                    refine v_stg (up2_up2 _ _ _ _ _) ?_
                    refine v_iload G (decAt dd_GN_follow 92 rfl) rfl ?_
                    refine v_bipush G 13 (decAt dd_GN_follow 93 rfl) (by decide) ?_
                    refine v_icmp_eq G 184 (decAt dd_GN_follow 94 rfl) (by decide) (fun c174 => absurd c174 (by decide)) (fun _ => ?_)
                    refine v_iload G (decAt dd_GN_follow 95 rfl) rfl ?_
                    refine v_bipush G 25 (decAt dd_GN_follow 96 rfl) (by decide) ?_
                    refine v_icmp_ne G 194 (decAt dd_GN_follow 97 rfl) (by decide) (fun _ => ?_) (fun c181 => absurd c181 (by decide))
                    refine v_iload G (decAt dd_GN_follow 103 rfl) rfl ?_
                    refine v_iconst G 2 (decAt dd_GN_follow 104 rfl) (by decide) ?_
                    refine v_iadd G (decAt dd_GN_follow 105 rfl) ?_
                    refine v_ri (y := (nI (2 * (t1 + 1)))) (nI_add (2 * t1) 2) ?_
                    refine v_istore_4 G (decAt dd_GN_follow 106 rfl) (by decide) rfl ?_
                    refine v_goto G 6 (decAt dd_GN_follow 107 rfl) (by decide) ?_
                    refine ih _ (t1 + 1) h3 ((j, h3) :: ws1) _ _ (fun i h1 h2 h3 h4 => by rw [va_up_ne _ _ h3, va_up_ne _ _ h2, va_up_ne _ _ h4]; exact hfr i h1 h2 h3 h4) hk.1 hh2 (RowIs.wT hR1) (RowIs.wD hR2) ?_ ?_
                    · have := hk.2
                      show 2 * cnt (fun i => va_up (A1 24) (2 * t1) 1 (2 * i)) c.length + (ws1.length + 1) ≤ _
                      omega
                    · have := hk.2
                      show cnt (fun i => va_up (A1 24) (2 * t1) 1 (2 * i)) c.length < μ
                      omega
                  · skip
                    refine v_L (L' := [some (.ref (E.o 3)), some (.ref (E.o 1)), some (.int (nI (2 * t))), some (.int (nI h)), some (.int (nI (2 * t1))), some (.int (nI h1)), some (.int 15), some (.int (nI y))]) (fun _ _ z => by rw [hy2]; exact z) ?_
                    refine v_iload G (decAt dd_GN_follow 30 rfl) rfl ?_
                    refine v_bipush G 17 (decAt dd_GN_follow 31 rfl) (by decide) ?_
                    refine v_icmp_eq G 67 (decAt dd_GN_follow 32 rfl) (by decide) (fun c57 => absurd c57 (by decide)) (fun _ => ?_)
                    refine v_iload G (decAt dd_GN_follow 33 rfl) rfl ?_
                    refine v_bipush G 20 (decAt dd_GN_follow 34 rfl) (by decide) ?_
                    refine v_icmp_ne G 68 (decAt dd_GN_follow 35 rfl) (by decide) (fun _ => ?_) (fun c64 => absurd c64 (by decide))
                    refine v_iload G (decAt dd_GN_follow 37 rfl) rfl ?_
                    refine v_bipush G 22 (decAt dd_GN_follow 38 rfl) (by decide) ?_
                    refine v_icmp_ne G 86 (decAt dd_GN_follow 39 rfl) (by decide) (fun _ => ?_) (fun c72 => absurd c72 (by decide))
                    refine v_iload G (decAt dd_GN_follow 47 rfl) rfl ?_
                    refine v_bipush G 21 (decAt dd_GN_follow 48 rfl) (by decide) ?_
                    refine v_icmp_ne G 131 (decAt dd_GN_follow 49 rfl) (by decide) (fun _ => ?_) (fun c90 => absurd c90 (by decide))
                    refine v_iload G (decAt dd_GN_follow 73 rfl) rfl ?_
                    refine v_iload G (decAt dd_GN_follow 74 rfl) rfl ?_
                    refine v_iload G (decAt dd_GN_follow 75 rfl) rfl ?_
                    refine p_callSi G (XB_Sy G) (As := [.int (nI 15), .int (nI y)]) (decAt dd_GN_follow 76 rfl) k_GN_138 (c_GN_grows l hE o2 o3) rfl rfl (Nat.le_of_ble_eq_true rfl) (by decide) rfl rfl (by decide) ?_
                    refine v_iadd G (decAt dd_GN_follow 77 rfl) ?_
                    refine v_ri (y := (nI h3)) (hsum h3 e2) ?_
                    refine v_istore_5 G (decAt dd_GN_follow 78 rfl) (by decide) rfl ?_
                    refine v_iload G (decAt dd_GN_follow 79 rfl) rfl ?_
                    refine v_bipush G 14 (decAt dd_GN_follow 80 rfl) (by decide) ?_
                    refine v_icmp_eq G 157 (decAt dd_GN_follow 81 rfl) (by decide) (fun c147 => absurd c147 (by decide)) (fun _ => ?_)
                    refine v_iload G (decAt dd_GN_follow 82 rfl) rfl ?_
                    refine v_bipush G 15 (decAt dd_GN_follow 83 rfl) (by decide) ?_
                    refine v_icmp_ne G 170 (decAt dd_GN_follow 84 rfl) (by decide) (fun c154 => absurd c154 (by decide)) (fun _ => ?_)
                    refine v_aload_n G (decAt dd_GN_follow 85 rfl) rfl ?_
                    refine v_aload_n G (decAt dd_GN_follow 86 rfl) rfl ?_
                    refine v_geta G (decAt dd_GN_follow 87 rfl) f_GN_37 ?_
                    refine v_iload G (decAt dd_GN_follow 88 rfl) rfl ?_
                    refine v_iald G 23 y (decAt dd_GN_follow 89 rfl) (by decide) rfl rfl (by omega) ?_
                    refine v_ri (y := nI (2 * j)) hWj ?_
                    refine v_iload G (decAt dd_GN_follow 90 rfl) rfl ?_
                    refine v_callVvk G (As := [.int (nI (2 * j)), .int (nI h3)]) (decAt dd_GN_follow 91 rfl) k_GN_130 (c_GN_way l hE (wm := ws1.length) up2_self (by omega) hb21 hb22) (by decide) rfl rfl rfl (Nat.le_of_ble_eq_true rfl) (by decide) rfl rfl (by decide) ?_
                    refine v_stg (up2_up2 _ _ _ _ _) ?_
                    refine v_iload G (decAt dd_GN_follow 92 rfl) rfl ?_
                    refine v_bipush G 13 (decAt dd_GN_follow 93 rfl) (by decide) ?_
                    refine v_icmp_eq G 184 (decAt dd_GN_follow 94 rfl) (by decide) (fun c174 => absurd c174 (by decide)) (fun _ => ?_)
                    refine v_iload G (decAt dd_GN_follow 95 rfl) rfl ?_
                    refine v_bipush G 25 (decAt dd_GN_follow 96 rfl) (by decide) ?_
                    refine v_icmp_ne G 194 (decAt dd_GN_follow 97 rfl) (by decide) (fun _ => ?_) (fun c181 => absurd c181 (by decide))
                    refine v_iload G (decAt dd_GN_follow 103 rfl) rfl ?_
                    refine v_iconst G 2 (decAt dd_GN_follow 104 rfl) (by decide) ?_
                    refine v_iadd G (decAt dd_GN_follow 105 rfl) ?_
                    refine v_ri (y := (nI (2 * (t1 + 1)))) (nI_add (2 * t1) 2) ?_
                    refine v_istore_4 G (decAt dd_GN_follow 106 rfl) (by decide) rfl ?_
                    refine v_goto G 6 (decAt dd_GN_follow 107 rfl) (by decide) ?_
                    refine ih _ (t1 + 1) h3 ((j, h3) :: ws1) _ _ (fun i h1 h2 h3 h4 => by rw [va_up_ne _ _ h3, va_up_ne _ _ h2, va_up_ne _ _ h4]; exact hfr i h1 h2 h3 h4) hk.1 hh2 (RowIs.wT hR1) (RowIs.wD hR2) ?_ ?_
                    · have := hk.2
                      show 2 * cnt (fun i => va_up (A1 24) (2 * t1) 1 (2 * i)) c.length + (ws1.length + 1) ≤ _
                      omega
                    · have := hk.2
                      show cnt (fun i => va_up (A1 24) (2 * t1) 1 (2 * i)) c.length < μ
                      omega
                · skip
                  by_cases hb0 : N = 10
                  · skip
                    subst hb0
                    obtain ⟨j, hj⟩ := hlb (by omega)
                    obtain ⟨y, hy1, hy2, hy3⟩ := inR_nI (argOK_lab hao (by omega))
                    have hWj : A1 23 y = nI (2 * j) := by rw [hfr 23 (by decide) (by decide) (by decide) (by decide), ← hy3]; exact hW x j hj
                    obtain ⟨h2, e2, hh2⟩ := hgo1 j (by unfold nx1; rw [hq]; dsimp only; rw [if_pos (by omega)]; exact hj)
                    rw [if_neg (by decide), Int.sub_zero] at e2
                    have hk := hI.go (dp' := A1 19) (ws' := ws1) (pend := some j) hlt h0 (fun _ h => h) (fun _ h => Or.inl h) (by omega) (fun x' hx _ => ((hSn x').mp hx).elim (fun h => absurd rfl h.2.2.1) (fun h => Or.inr (by rw [show x' = j from Option.some.inj (h.2.symm.trans hj)]))) (fun _ _ _ _ _ _ => rfl) hdt
                    refine v_L (L' := [some (.ref (E.o 3)), some (.ref (E.o 1)), some (.int (nI (2 * t))), some (.int (nI h)), some (.int (nI (2 * t1))), some (.int (nI h1)), some (.int 13), some (.int (nI y))]) (fun _ _ z => by rw [hy2]; exact z) ?_
                    refine v_iload G (decAt dd_GN_follow 30 rfl) rfl ?_
                    refine v_bipush G 17 (decAt dd_GN_follow 31 rfl) (by decide) ?_
                    refine v_icmp_eq G 67 (decAt dd_GN_follow 32 rfl) (by decide) (fun c57 => absurd c57 (by decide)) (fun _ => ?_)
                    refine v_iload G (decAt dd_GN_follow 33 rfl) rfl ?_
                    refine v_bipush G 20 (decAt dd_GN_follow 34 rfl) (by decide) ?_
                    refine v_icmp_ne G 68 (decAt dd_GN_follow 35 rfl) (by decide) (fun _ => ?_) (fun c64 => absurd c64 (by decide))
                    refine v_iload G (decAt dd_GN_follow 37 rfl) rfl ?_
                    refine v_bipush G 22 (decAt dd_GN_follow 38 rfl) (by decide) ?_
                    refine v_icmp_ne G 86 (decAt dd_GN_follow 39 rfl) (by decide) (fun _ => ?_) (fun c72 => absurd c72 (by decide))
                    refine v_iload G (decAt dd_GN_follow 47 rfl) rfl ?_
                    refine v_bipush G 21 (decAt dd_GN_follow 48 rfl) (by decide) ?_
                    refine v_icmp_ne G 131 (decAt dd_GN_follow 49 rfl) (by decide) (fun _ => ?_) (fun c90 => absurd c90 (by decide))
                    refine v_iload G (decAt dd_GN_follow 73 rfl) rfl ?_
                    refine v_iload G (decAt dd_GN_follow 74 rfl) rfl ?_
                    refine v_iload G (decAt dd_GN_follow 75 rfl) rfl ?_
                    refine p_callSi G (XB_Sy G) (As := [.int (nI 13), .int (nI y)]) (decAt dd_GN_follow 76 rfl) k_GN_138 (c_GN_grows l hE o2 o3) rfl rfl (Nat.le_of_ble_eq_true rfl) (by decide) rfl rfl (by decide) ?_
                    refine v_iadd G (decAt dd_GN_follow 77 rfl) ?_
                    refine v_ri (y := (nI h2)) (hsum h2 e2) ?_
                    refine v_istore_5 G (decAt dd_GN_follow 78 rfl) (by decide) rfl ?_
                    refine v_iload G (decAt dd_GN_follow 79 rfl) rfl ?_
                    refine v_bipush G 14 (decAt dd_GN_follow 80 rfl) (by decide) ?_
                    refine v_icmp_eq G 157 (decAt dd_GN_follow 81 rfl) (by decide) (fun c147 => absurd c147 (by decide)) (fun _ => ?_)
                    refine v_iload G (decAt dd_GN_follow 82 rfl) rfl ?_
                    refine v_bipush G 15 (decAt dd_GN_follow 83 rfl) (by decide) ?_
                    refine v_icmp_ne G 170 (decAt dd_GN_follow 84 rfl) (by decide) (fun _ => ?_) (fun c154 => absurd c154 (by decide))
                    refine v_iload G (decAt dd_GN_follow 92 rfl) rfl ?_
                    refine v_bipush G 13 (decAt dd_GN_follow 93 rfl) (by decide) ?_
                    refine v_icmp_eq G 184 (decAt dd_GN_follow 94 rfl) (by decide) (fun _ => ?_) (fun c174 => absurd c174 (by decide))
                    refine v_aload_n G (decAt dd_GN_follow 98 rfl) rfl ?_
                    refine v_geta G (decAt dd_GN_follow 99 rfl) f_GN_37 ?_
                    refine v_iload G (decAt dd_GN_follow 100 rfl) rfl ?_
                    refine v_iald G 23 y (decAt dd_GN_follow 101 rfl) (by decide) rfl rfl (by omega) ?_
                    refine v_ri (y := nI (2 * j)) hWj ?_
                    refine v_goto G 198 (decAt dd_GN_follow 102 rfl) (by decide) ?_
                    refine v_istore_4 G (decAt dd_GN_follow 106 rfl) (by decide) rfl ?_
                    refine v_goto G 6 (decAt dd_GN_follow 107 rfl) (by decide) ?_
                    exact ih _ j h2 ws1 _ _ (fun i h1 h2 h3 h4 => by rw [va_up_ne _ _ h4]; exact hfr i h1 h2 h3 h4) hk.1 hh2 hR1 hR2 (by have := hk.2; show 2 * cnt (fun i => va_up (A1 24) (2 * t1) 1 (2 * i)) c.length + ws1.length ≤ _; omega) (by have := hk.2; show cnt (fun i => va_up (A1 24) (2 * t1) 1 (2 * i)) c.length < μ; omega)
                  · skip
                    obtain ⟨h2, e2, hh2⟩ := hgo (t1 + 1) ((e0 hb18).trans (if_neg hb0))
                    have hk := hI.go (dp' := A1 19) (ws' := ws1) (pend := some (t1 + 1)) hlt h0 (fun _ h => h) (fun _ h => Or.inl h) (by omega) (fun x' hx _ => ((hSn x').mp hx).elim (fun h => Or.inr (by rw [h.2.2.2])) (fun h => absurd h.1 (by omega))) (fun _ _ _ _ _ _ => rfl) hdt
                    refine v_iload G (decAt dd_GN_follow 30 rfl) rfl ?_
                    refine v_bipush G 17 (decAt dd_GN_follow 31 rfl) (by decide) ?_
                    refine v_icmp_eq G 67 (decAt dd_GN_follow 32 rfl) (by decide) (fun c57 => ?_) (fun c57 => ?_)
                    · skip
                      exact absurd (by first | exact c57 | exact Classical.not_not.mp c57) (ne 16 (by omega) (by omega))
                    · skip
                      refine v_iload G (decAt dd_GN_follow 33 rfl) rfl ?_
                      refine v_bipush G 20 (decAt dd_GN_follow 34 rfl) (by decide) ?_
                      refine v_icmp_ne G 68 (decAt dd_GN_follow 35 rfl) (by decide) (fun c64 => ?_) (fun c64 => ?_)
                      · skip
                        refine v_iload G (decAt dd_GN_follow 37 rfl) rfl ?_
                        refine v_bipush G 22 (decAt dd_GN_follow 38 rfl) (by decide) ?_
                        refine v_icmp_ne G 86 (decAt dd_GN_follow 39 rfl) (by decide) (fun c72 => ?_) (fun c72 => ?_)
                        · skip
                          refine v_iload G (decAt dd_GN_follow 47 rfl) rfl ?_
                          refine v_bipush G 21 (decAt dd_GN_follow 48 rfl) (by decide) ?_
                          refine v_icmp_ne G 131 (decAt dd_GN_follow 49 rfl) (by decide) (fun c90 => ?_) (fun c90 => ?_)
                          · skip
                            refine v_iload G (decAt dd_GN_follow 73 rfl) rfl ?_
                            refine v_iload G (decAt dd_GN_follow 74 rfl) rfl ?_
                            refine v_iload G (decAt dd_GN_follow 75 rfl) rfl ?_
                            refine v_S (S' := [.int x, .int (nI (opn N)), .int (nI h1)]) (by rw [o1]) ?_
                            refine p_callSi G (XB_Sy G) (As := [.int (nI (opn N)), .int x]) (decAt dd_GN_follow 76 rfl) k_GN_138 (c_GN_grows l hE o2 o3) rfl rfl (Nat.le_of_ble_eq_true rfl) (by decide) rfl rfl (by decide) ?_
                            refine v_iadd G (decAt dd_GN_follow 77 rfl) ?_
                            refine v_ri (y := (nI h2)) (hsum h2 e2) ?_
                            refine v_istore_5 G (decAt dd_GN_follow 78 rfl) (by decide) rfl ?_
                            refine v_iload G (decAt dd_GN_follow 79 rfl) rfl ?_
                            refine v_bipush G 14 (decAt dd_GN_follow 80 rfl) (by decide) ?_
                            refine v_icmp_eq G 157 (decAt dd_GN_follow 81 rfl) (by decide) (fun c147 => ?_) (fun c147 => ?_)
                            · skip
                              exact absurd (by first | exact c147 | exact Classical.not_not.mp c147) (ne 11 (by omega) (by omega))
                            · skip
                              refine v_iload G (decAt dd_GN_follow 82 rfl) rfl ?_
                              refine v_bipush G 15 (decAt dd_GN_follow 83 rfl) (by decide) ?_
                              refine v_icmp_ne G 170 (decAt dd_GN_follow 84 rfl) (by decide) (fun c154 => ?_) (fun c154 => ?_)
                              · skip
                                refine v_iload G (decAt dd_GN_follow 92 rfl) rfl ?_
                                refine v_bipush G 13 (decAt dd_GN_follow 93 rfl) (by decide) ?_
                                refine v_icmp_eq G 184 (decAt dd_GN_follow 94 rfl) (by decide) (fun c174 => ?_) (fun c174 => ?_)
                                · skip
                                  exact absurd (by first | exact c174 | exact Classical.not_not.mp c174) (ne 10 (by omega) (by omega))
                                · skip
                                  refine v_iload G (decAt dd_GN_follow 95 rfl) rfl ?_
                                  refine v_bipush G 25 (decAt dd_GN_follow 96 rfl) (by decide) ?_
                                  refine v_icmp_ne G 194 (decAt dd_GN_follow 97 rfl) (by decide) (fun c181 => ?_) (fun c181 => ?_)
                                  · skip
                                    refine v_iload G (decAt dd_GN_follow 103 rfl) rfl ?_
                                    refine v_iconst G 2 (decAt dd_GN_follow 104 rfl) (by decide) ?_
                                    refine v_iadd G (decAt dd_GN_follow 105 rfl) ?_
                                    refine v_ri (y := (nI (2 * (t1 + 1)))) (nI_add (2 * t1) 2) ?_
                                    refine v_istore_4 G (decAt dd_GN_follow 106 rfl) (by decide) rfl ?_
                                    refine v_goto G 6 (decAt dd_GN_follow 107 rfl) (by decide) ?_
                                    exact ih _ (t1 + 1) h2 ws1 _ _ (fun i h1 h2 h3 h4 => by rw [va_up_ne _ _ h4]; exact hfr i h1 h2 h3 h4) hk.1 hh2 hR1 hR2 (by have := hk.2; show 2 * cnt (fun i => va_up (A1 24) (2 * t1) 1 (2 * i)) c.length + ws1.length ≤ _; omega) (by have := hk.2; show cnt (fun i => va_up (A1 24) (2 * t1) 1 (2 * i)) c.length < μ; omega)
                                  · skip
                                    exact absurd (by first | exact c181 | exact Classical.not_not.mp c181) (stv2_25 N q3)
                              · skip
                                exact absurd (by first | exact c154 | exact Classical.not_not.mp c154) (ne 12 (by omega) (by omega))
                          · skip
                            exact absurd (by first | exact c90 | exact Classical.not_not.mp c90) (ne 18 (by omega) (by omega))
                        · skip
                          exact absurd (by first | exact c72 | exact Classical.not_not.mp c72) (ne 13 (by omega) (by omega))
                      · skip
                        exact absurd (by first | exact c64 | exact Classical.not_not.mp c64) (ne 17 (by omega) (by omega))
  refine v_iload_n G (decAt dd_GN_follow 0 rfl) rfl ?_
  refine v_istore_4 G (decAt dd_GN_follow 1 rfl) (by decide) rfl ?_
  refine v_iload_n G (decAt dd_GN_follow 2 rfl) rfl ?_
  refine v_istore_5 G (decAt dd_GN_follow 3 rfl) (by decide) rfl ?_
  refine v_stg (up2_id hF).symm ?_
  exact J6 _ A t h ws none none (fun _ _ _ _ _ => rfl) hI hh hR1 hR2 (Nat.le_refl _) (Nat.lt_succ_self _)
