/-! Better: what is come to -/
def Suc (c : Cod) (i t : Nat) : Prop := ∃ n k, c[i]? = some (n, k) ∧ ((n ≠ 16 ∧ n ≠ 17 ∧ n ≠ 10 ∧ t = i + 1) ∨ ((n = 10 ∨ n = 11 ∨ n = 12) ∧ lbl c k = some t))
def SR (c : Cod) (i : Nat) : Prop := ∀ P : Nat → Prop, P 0 → (∀ i t, P i → Suc c i t → P t) → P i
theorem SR.zero (c : Cod) : SR c 0 := fun _ h _ => h
theorem SR.step {c : Cod} {i t : Nat} (h : SR c i) (hs : Suc c i t) : SR c t := fun P h0 hp => hp i t (h P h0 hp) hs
def fmap (fol : List Nat) : List Int32 := fol.map fun t => nI (2 * t)
def LvI (c : Cod) (lv : Nat → Int32) (fol : List Nat) (pend : Option Nat) : Prop :=
  (∀ i, i < c.length → lv (2 * i) = 0 ∨ lv (2 * i) = 1) ∧ (∀ i, i < c.length → lv (2 * i) = 1 → SR c i) ∧ (∀ t, t ∈ fol → SR c t ∧ t < c.length) ∧ (∀ t, pend = some t → SR c t) ∧
  (∀ i t, i < c.length → lv (2 * i) = 1 → Suc c i t → t < c.length → lv (2 * t) = 1 ∨ t ∈ fol ∨ pend = some t) ∧ (lv 0 = 1 ∨ 0 ∈ fol ∨ pend = some 0) ∧ fol.length + cnt (fun i => lv (2 * i)) c.length ≤ c.length
theorem LvI.done {c : Cod} {lv : Nat → Int32} {fol : List Nat} {t : Nat} (hc : 0 < c.length) (h : LvI c lv fol (some t)) (ht : c.length ≤ t ∨ lv (2 * t) = 1) : LvI c lv fol none := by
  obtain ⟨h1, h2, h3, h4, h5, h6, h7⟩ := h
  refine ⟨h1, h2, h3, fun t h => (by cases h), fun i t' hi hl hs hlt => ?_, ?_, h7⟩
  · rcases h5 i t' hi hl hs hlt with q | q | q
    · exact Or.inl q
    · exact Or.inr (Or.inl q)
    · cases q
      exact Or.inl (ht.resolve_left (by omega))
  · rcases h6 with q | q | q
    · exact Or.inl q
    · exact Or.inr (Or.inl q)
    · cases q
      exact Or.inl (ht.resolve_left (by omega))
theorem up2i {lv : Nat → Int32} {t : Nat} {v : Int32} : (fun i => va_up lv (2 * t) v (2 * i)) = va_up (fun i => lv (2 * i)) t v := by
  funext i
  by_cases h : i = t
  · subst h; rw [va_up_self, va_up_self]
  · rw [va_up_ne _ _ h, va_up_ne _ _ (by omega)]
theorem LvI.go {c : Cod} {lv : Nat → Int32} {fol fol' : List Nat} {t : Nat} {pend : Option Nat} (h : LvI c lv fol (some t)) (ht : t < c.length) (h0 : lv (2 * t) = 0) (hf : ∀ x, x ∈ fol → x ∈ fol') (hf' : ∀ x, x ∈ fol' → x ∈ fol ∨ (Suc c t x ∧ x < c.length)) (hl : fol'.length ≤ fol.length + 1) (hp : ∀ x, pend = some x → Suc c t x) (hs : ∀ x, Suc c t x → x < c.length → x ∈ fol' ∨ pend = some x) : LvI c (va_up lv (2 * t) 1) fol' pend ∧ cnt (fun i => va_up lv (2 * t) 1 (2 * i)) c.length + 1 = cnt (fun i => lv (2 * i)) c.length := by
  obtain ⟨h1, h2, h3, h4, h5, h6, h7⟩ := h
  have hcn : cnt (fun i => va_up lv (2 * t) 1 (2 * i)) c.length + 1 = cnt (fun i => lv (2 * i)) c.length := by
    rw [up2i]
    exact cnt_up (f := fun i => lv (2 * i)) (by decide) ht h0
  have hlv : ∀ i, va_up lv (2 * t) 1 (2 * i) = if i = t then 1 else lv (2 * i) := fun i => by
    by_cases e : i = t
    · subst e; rw [va_up_self, if_pos rfl]
    · rw [va_up_ne _ _ (by omega), if_neg e]
  have hm : ∀ i, lv (2 * i) = 1 → va_up lv (2 * t) 1 (2 * i) = 1 := fun i hi => by
    rw [hlv]; split
    · rfl
    · exact hi
  have hself : va_up lv (2 * t) 1 (2 * t) = 1 := va_up_self _ _ _
  refine ⟨⟨fun i hi => ?_, fun i hi hl' => ?_, fun x hx => ?_, fun x hx => (h4 t rfl).step (hp x hx), fun i x hi hl' hsu hx => ?_, ?_, by omega⟩, hcn⟩
  · rw [hlv]; split
    · exact Or.inr rfl
    · exact h1 i hi
  · rw [hlv] at hl'
    by_cases e : i = t
    · subst e; exact h4 i rfl
    · rw [if_neg e] at hl'; exact h2 i hi hl'
  · rcases hf' x hx with q | q
    · exact h3 x q
    · exact ⟨(h4 t rfl).step q.1, q.2⟩
  · by_cases e : i = t
    · subst e
      exact Or.inr (hs x hsu hx)
    · rw [hlv, if_neg e] at hl'
      rcases h5 i x hi hl' hsu hx with q | q | q
      · exact Or.inl (hm x q)
      · exact Or.inr (Or.inl (hf x q))
      · cases q
        exact Or.inl hself
  · rcases h6 with q | q | q
    · exact Or.inl (hm 0 q)
    · exact Or.inr (Or.inl (hf 0 q))
    · cases q
      exact Or.inl hself
theorem stv2_25 : ∀ n, n ≤ 20 → ¬ stv 2 n = 25 := by decide +kernel
theorem stv2_ne : ∀ n, n ≤ 20 → ∀ m, m ≤ 20 → n ≠ m → ¬ stv 2 n = stv 2 m := fun n hn m hm h z => h (stv2_inj n hn m hm z)
theorem argOK_lab {n : Nat} {k : Int32} (h : argOK n k = true) (hn : n = 10 ∨ n = 11 ∨ n = 12 ∨ n = 13) : inR k 100 = true := by
  rcases hn with rfl | rfl | rfl | rfl <;> exact h
/-- where labels are -/
def WhI (c : Cod) (w : Nat → Int32) : Prop := ∀ lab j, lbl c lab = some j → w lab.toNatClampNeg = nI (2 * j)
/-- Better's arrays -/
abbrev BN (n : Nat → Nat) : Prop := n 12 = 256 ∧ n 13 = 256 ∧ n 14 = 256 ∧ 100 ≤ n 15 ∧ n 16 = 256

set_option maxHeartbeats 4000000 in
theorem c_BT_walk (l : Launch) {E : Bs} (hE : Hb E) {ρ : Nat → Nat} {g A : Nat → Nat → Int32} {n : Nat → Nat} {tx : Value} {c : Cod} {fol : List Nat} {t : Nat} (hn : BN n) (hlen : c.length ≤ 64) (hc0 : 0 < c.length) (hN : g 2 2 = nI (2 * c.length)) (hC : CdI (A 12) c) (hL : LabC c) (hW : WhI c (A 15)) (hF : g 2 7 = nI fol.length) (hR : RowIs (A 16) (fmap fol)) (hI : LvI c (A 14) fol (some t)) (ht : t ≤ c.length) : CW l E DC AC y_BT_walk b_BT_walk 4 none ({ frames := 0, cells := 0, slots := 0, locals := 0 } : Room) [.ref (E.o 2), .int (nI (2 * t))] ρ g A n tx (fun r ρ' g' A' n' tx' => r = none ∧ ∃ fol' : List Nat, LvI c (A' 14) fol' none ∧ RowIs (A' 16) (fmap fol') ∧ 2 * cnt (fun i => A' 14 (2 * i)) c.length + fol'.length ≤ 2 * cnt (fun i => A 14 (2 * i)) c.length + fol.length ∧ ρ' = ρ ∧ g' = up2 g 2 7 (nI fol'.length) ∧ (∀ i, i ≠ 14 → i ≠ 16 → A' i = A i) ∧ n' = n ∧ tx' = tx) := by
  obtain ⟨hb12, hb13, hb14, hb15, hb16⟩ := hn
  refine CW.start [some (.ref (E.o 2)), some (.int (nI (2 * t))), none, none] hE (by decide) (Nat.le_of_ble_eq_true rfl) rfl ?_
  intro p e s m args below meth c1 G
  have J2 : ∀ (μ : Nat) (A1 : Nat → Nat → Int32) (t1 : Nat) (fol1 : List Nat) (x3 : Option Value), (∀ i, i ≠ 14 → i ≠ 16 → A1 i = A i) → LvI c (A1 14) fol1 (some t1) → RowIs (A1 16) (fmap fol1) → t1 ≤ c.length → 2 * cnt (fun i => A1 14 (2 * i)) c.length + fol1.length ≤ 2 * cnt (fun i => A 14 (2 * i)) c.length + fol.length → cnt (fun i => A1 14 (2 * i)) c.length < μ → V p l e ({ frames := 0, cells := 0, slots := 0, locals := 0 } : Room) s m args below meth c1 4 (Sy E DC AC s.heap ρ (up2 g 2 7 (nI fol1.length)) A1 n tx) 0 0 (MQ below (QW E DC AC (fun r ρ' g' A' n' tx' => r = none ∧ ∃ fol' : List Nat, LvI c (A' 14) fol' none ∧ RowIs (A' 16) (fmap fol') ∧ 2 * cnt (fun i => A' 14 (2 * i)) c.length + fol'.length ≤ 2 * cnt (fun i => A 14 (2 * i)) c.length + fol.length ∧ ρ' = ρ ∧ g' = up2 g 2 7 (nI fol'.length) ∧ (∀ i, i ≠ 14 → i ≠ 16 → A' i = A i) ∧ n' = n ∧ tx' = tx)) args s 0 0 E.F) 2 [some (.ref (E.o 2)), some (.int (nI (2 * t))), some (.int (nI (2 * t1))), x3] [] := by
    intro μ
    induction μ with
    | zero => intro A1 t1 fol1 x3 hfr hI hR ht hm hμ; exact absurd hμ (by omega)
    | succ μ ih =>
      intro A1 t1 fol1 x3 hfr hI hR ht hm hμ
      by_cases hlt : t1 < c.length
      · skip
        obtain ⟨⟨N, x⟩, hq⟩ : ∃ z, c[t1]? = some z := ⟨c[t1], List.getElem?_eq_getElem hlt⟩
        obtain ⟨q1, q2, q3⟩ := hC t1 N x hq
        rw [← hfr 12 (by decide) (by decide)] at q1 q2
        obtain ⟨-, hao, h13, hlb, -⟩ := hL t1 N x hq
        have ne := fun m (hm : m ≤ 20) (z : N ≠ m) => stv2_ne N q3 m hm z
        refine v_iload_n G (decAt dd_BT_walk 2 rfl) rfl ?_
        refine v_aload_n G (decAt dd_BT_walk 3 rfl) rfl ?_
        refine v_geti G (decAt dd_BT_walk 4 rfl) f_BT_46 ?_
        refine v_ri (y := (nI (2 * c.length))) ((up2_ne (by decide)).trans hN) ?_
        refine v_icmp_ge G 125 (decAt dd_BT_walk 5 rfl) (by decide) (fun c7 => ?_) (fun c7 => ?_)
        · skip
          exact absurd c7 (nI_ge (by omega) (by omega))
        · skip
          refine v_aload_n G (decAt dd_BT_walk 6 rfl) rfl ?_
          refine v_geta G (decAt dd_BT_walk 7 rfl) f_BT_18 ?_
          refine v_iload_n G (decAt dd_BT_walk 8 rfl) rfl ?_
          refine v_zald G 14 (2 * t1) (decAt dd_BT_walk 9 rfl) (by decide) rfl rfl (by omega) ?_
          refine v_if_ne G 125 (decAt dd_BT_walk 10 rfl) (by decide) (fun c16 => ?_) (fun c16 => ?_)
          · skip
            exact v_vret G (decAt dd_BT_walk 75 rfl) rfl ⟨rfl, fol1, hI.done hc0 (Or.inr ((hI.1 t1 hlt).resolve_left (by first | exact c16 | exact fun z => c16 z))), hR, hm, rfl, rfl, hfr, rfl, rfl⟩
          · skip
            refine v_aload_n G (decAt dd_BT_walk 11 rfl) rfl ?_
            refine v_geta G (decAt dd_BT_walk 12 rfl) f_BT_18 ?_
            refine v_iload_n G (decAt dd_BT_walk 13 rfl) rfl ?_
            refine v_iconst G 1 (decAt dd_BT_walk 14 rfl) (by decide) ?_
            refine v_zast G 14 (2 * t1) (decAt dd_BT_walk 15 rfl) (by decide) rfl rfl (by omega) rfl ?_
            have h0 : A1 14 (2 * t1) = 0 := by first | exact c16 | exact Classical.not_not.mp c16
            have hfl : fol1.length < 256 := by have := hI.2.2.2.2.2.2; omega
            have hSn : ∀ x', Suc c t1 x' ↔ ((N ≠ 16 ∧ N ≠ 17 ∧ N ≠ 10 ∧ x' = t1 + 1) ∨ ((N = 10 ∨ N = 11 ∨ N = 12) ∧ lbl c x = some x')) := fun x' => ⟨fun ⟨n', k', e, h⟩ => by rw [hq] at e; cases e; exact h, fun h => ⟨N, x, hq, h⟩⟩
            by_cases hs : N = 16 ∨ N = 17
            · skip
              have hgo := hI.go (fol' := fol1) (pend := none) hlt h0 (fun _ h => h) (fun _ h => Or.inl h) (by omega) (fun x h => by cases h) (fun x' hx => absurd ((hSn x').mp hx) (by omega))
              rcases hs with rfl | rfl
              · skip
                refine v_aload_n G (decAt dd_BT_walk 16 rfl) rfl ?_
                refine v_geta G (decAt dd_BT_walk 17 rfl) f_BT_9 ?_
                refine v_iload_n G (decAt dd_BT_walk 18 rfl) rfl ?_
                refine v_iald G 12 (2 * t1) (decAt dd_BT_walk 19 rfl) (by decide) rfl rfl (by omega) ?_
                refine v_ri (y := 17) q1 ?_
                refine v_istore_3 G (decAt dd_BT_walk 20 rfl) (by decide) rfl ?_
                refine v_iload_n G (decAt dd_BT_walk 21 rfl) rfl ?_
                refine v_bipush G 17 (decAt dd_BT_walk 22 rfl) (by decide) ?_
                refine v_icmp_eq G 45 (decAt dd_BT_walk 23 rfl) (by decide) (fun _ => ?_) (fun c36 => absurd c36 (by decide))
                exact v_vret G (decAt dd_BT_walk 27 rfl) rfl ⟨rfl, fol1, hgo.1, hR, by have := hgo.2; show 2 * cnt (fun i => va_up (A1 14) (2 * t1) 1 (2 * i)) c.length + _ ≤ _; omega, rfl, rfl, fun i h1 h2 => by rw [va_up_ne _ _ h1]; exact hfr i h1 h2, rfl, rfl⟩
              · skip
                refine v_aload_n G (decAt dd_BT_walk 16 rfl) rfl ?_
                refine v_geta G (decAt dd_BT_walk 17 rfl) f_BT_9 ?_
                refine v_iload_n G (decAt dd_BT_walk 18 rfl) rfl ?_
                refine v_iald G 12 (2 * t1) (decAt dd_BT_walk 19 rfl) (by decide) rfl rfl (by omega) ?_
                refine v_ri (y := 20) q1 ?_
                refine v_istore_3 G (decAt dd_BT_walk 20 rfl) (by decide) rfl ?_
                refine v_iload_n G (decAt dd_BT_walk 21 rfl) rfl ?_
                refine v_bipush G 17 (decAt dd_BT_walk 22 rfl) (by decide) ?_
                refine v_icmp_eq G 45 (decAt dd_BT_walk 23 rfl) (by decide) (fun c36 => absurd c36 (by decide)) (fun _ => ?_)
                refine v_iload_n G (decAt dd_BT_walk 24 rfl) rfl ?_
                refine v_bipush G 20 (decAt dd_BT_walk 25 rfl) (by decide) ?_
                refine v_icmp_ne G 46 (decAt dd_BT_walk 26 rfl) (by decide) (fun c42 => absurd c42 (by decide)) (fun _ => ?_)
                exact v_vret G (decAt dd_BT_walk 27 rfl) rfl ⟨rfl, fol1, hgo.1, hR, by have := hgo.2; show 2 * cnt (fun i => va_up (A1 14) (2 * t1) 1 (2 * i)) c.length + _ ≤ _; omega, rfl, rfl, fun i h1 h2 => by rw [va_up_ne _ _ h1]; exact hfr i h1 h2, rfl, rfl⟩
            · skip
              by_cases hb : N = 11 ∨ N = 12
              · skip
                obtain ⟨j, hj⟩ := hlb (by omega)
                obtain ⟨y, hy1, hy2, hy3⟩ := inR_nI (argOK_lab hao (by omega))
                have hWj : A1 15 y = nI (2 * j) := by rw [hfr 15 (by decide) (by decide), ← hy3]; exact hW x j hj
                have hjl : j < c.length := lbl_lt hj
                have hgo := hI.go (fol' := j :: fol1) (pend := some (t1 + 1)) hlt h0 (fun _ h => List.mem_cons_of_mem _ h) (fun x' h => (List.mem_cons.mp h).elim (fun e => Or.inr ⟨by rw [e]; exact (hSn j).mpr (Or.inr ⟨by omega, hj⟩), by rw [e]; exact hjl⟩) Or.inl) (Nat.le_refl _) (fun x' h => by cases h; exact (hSn _).mpr (Or.inl ⟨by omega, by omega, by omega, rfl⟩)) (fun x' hx _ => ((hSn x').mp hx).elim (fun h => Or.inr (by rw [h.2.2.2])) (fun h => Or.inl (by rw [show x' = j from Option.some.inj (h.2.symm.trans hj)]; exact List.mem_cons_self)))
                have hR' : RowIs (va_up (A1 16) fol1.length (nI (2 * j))) (fmap (j :: fol1)) := by
                  have := RowIs.push (v := nI (2 * j)) hR
                  rwa [show (fmap fol1).length = fol1.length from List.length_map _] at this
                rcases hb with rfl | rfl
                · skip
                  refine v_aload_n G (decAt dd_BT_walk 16 rfl) rfl ?_
                  refine v_geta G (decAt dd_BT_walk 17 rfl) f_BT_9 ?_
                  refine v_iload_n G (decAt dd_BT_walk 18 rfl) rfl ?_
                  refine v_iald G 12 (2 * t1) (decAt dd_BT_walk 19 rfl) (by decide) rfl rfl (by omega) ?_
                  refine v_ri (y := 14) q1 ?_
                  refine v_istore_3 G (decAt dd_BT_walk 20 rfl) (by decide) rfl ?_
                  refine v_iload_n G (decAt dd_BT_walk 21 rfl) rfl ?_
                  refine v_bipush G 17 (decAt dd_BT_walk 22 rfl) (by decide) ?_
                  refine v_icmp_eq G 45 (decAt dd_BT_walk 23 rfl) (by decide) (fun c36 => absurd c36 (by decide)) (fun _ => ?_)
                  refine v_iload_n G (decAt dd_BT_walk 24 rfl) rfl ?_
                  refine v_bipush G 20 (decAt dd_BT_walk 25 rfl) (by decide) ?_
                  refine v_icmp_ne G 46 (decAt dd_BT_walk 26 rfl) (by decide) (fun _ => ?_) (fun c42 => absurd c42 (by decide))
                  refine v_iload_n G (decAt dd_BT_walk 28 rfl) rfl ?_
                  refine v_bipush G 14 (decAt dd_BT_walk 29 rfl) (by decide) ?_
                  refine v_icmp_eq G 58 (decAt dd_BT_walk 30 rfl) (by decide) (fun _ => ?_) (fun c49 => absurd c49 (by decide))
                  refine v_aload_n G (decAt dd_BT_walk 34 rfl) rfl ?_
                  refine v_geta G (decAt dd_BT_walk 35 rfl) f_BT_25 ?_
                  refine v_aload_n G (decAt dd_BT_walk 36 rfl) rfl ?_
                  refine v_geti G (decAt dd_BT_walk 37 rfl) f_BT_56 ?_
                  refine v_ri (y := (nI fol1.length)) up2_self ?_
                  refine v_aload_n G (decAt dd_BT_walk 38 rfl) rfl ?_
                  refine v_geta G (decAt dd_BT_walk 39 rfl) f_BT_22 ?_
                  refine v_aload_n G (decAt dd_BT_walk 40 rfl) rfl ?_
                  refine v_geta G (decAt dd_BT_walk 41 rfl) f_BT_9 ?_
                  refine v_iload_n G (decAt dd_BT_walk 42 rfl) rfl ?_
                  refine v_iconst G 1 (decAt dd_BT_walk 43 rfl) (by decide) ?_
                  refine v_iadd G (decAt dd_BT_walk 44 rfl) ?_
                  refine v_ri (y := (nI (2 * t1 + 1))) (nI_1 _) ?_
                  refine v_iald G 12 (2 * t1 + 1) (decAt dd_BT_walk 45 rfl) (by decide) rfl rfl (by omega) ?_
                  refine v_ri (y := nI y) (q2.trans hy2) ?_
                  refine v_iald G 15 y (decAt dd_BT_walk 46 rfl) (by decide) rfl rfl (by omega) ?_
                  refine v_ri (y := nI (2 * j)) hWj ?_
                  refine v_iast G 16 fol1.length (decAt dd_BT_walk 47 rfl) (by decide) rfl rfl (by omega) ?_
                  refine v_aload_n G (decAt dd_BT_walk 48 rfl) rfl ?_
                  refine v_dup G (decAt dd_BT_walk 49 rfl) rfl ?_
                  refine v_geti G (decAt dd_BT_walk 50 rfl) f_BT_56 ?_
                  refine v_ri (y := (nI fol1.length)) up2_self ?_
                  refine v_iconst G 1 (decAt dd_BT_walk 51 rfl) (by decide) ?_
                  refine v_iadd G (decAt dd_BT_walk 52 rfl) ?_
                  refine v_ri (y := (nI (fol1.length + 1))) (nI_1 _) ?_
                  refine v_puti G (decAt dd_BT_walk 53 rfl) f_BT_56 rfl rfl rfl ?_
                  refine v_iload_n G (decAt dd_BT_walk 54 rfl) rfl ?_
                  refine v_bipush G 13 (decAt dd_BT_walk 55 rfl) (by decide) ?_
                  refine v_icmp_eq G 102 (decAt dd_BT_walk 56 rfl) (by decide) (fun c93 => absurd c93 (by decide)) (fun _ => ?_)
                  refine v_iload_n G (decAt dd_BT_walk 57 rfl) rfl ?_
                  refine v_bipush G 25 (decAt dd_BT_walk 58 rfl) (by decide) ?_
                  refine v_icmp_ne G 118 (decAt dd_BT_walk 59 rfl) (by decide) (fun _ => ?_) (fun c99 => absurd c99 (by decide))
                  refine v_iload_n G (decAt dd_BT_walk 70 rfl) rfl ?_
                  refine v_iconst G 2 (decAt dd_BT_walk 71 rfl) (by decide) ?_
                  refine v_iadd G (decAt dd_BT_walk 72 rfl) ?_
                  refine v_ri (y := (nI (2 * (t1 + 1)))) (nI_add (2 * t1) 2) ?_
                  refine v_istore_2 G (decAt dd_BT_walk 73 rfl) (by decide) rfl ?_
                  refine v_goto G 2 (decAt dd_BT_walk 74 rfl) (by decide) ?_
                  refine v_stg (up2_up2 _ _ _ _ _) ?_
                  exact ih _ (t1 + 1) (j :: fol1) _ (fun i h1 h2 => by rw [va_up_ne _ _ h2, va_up_ne _ _ h1]; exact hfr i h1 h2) hgo.1 hR' (by omega) (by have := hgo.2; show 2 * cnt (fun i => va_up (A1 14) (2 * t1) 1 (2 * i)) c.length + (fol1.length + 1) ≤ _; omega) (by have := hgo.2; show cnt (fun i => va_up (A1 14) (2 * t1) 1 (2 * i)) c.length < μ; omega)
                · skip
                  refine v_aload_n G (decAt dd_BT_walk 16 rfl) rfl ?_
                  refine v_geta G (decAt dd_BT_walk 17 rfl) f_BT_9 ?_
                  refine v_iload_n G (decAt dd_BT_walk 18 rfl) rfl ?_
                  refine v_iald G 12 (2 * t1) (decAt dd_BT_walk 19 rfl) (by decide) rfl rfl (by omega) ?_
                  refine v_ri (y := 15) q1 ?_
                  refine v_istore_3 G (decAt dd_BT_walk 20 rfl) (by decide) rfl ?_
                  refine v_iload_n G (decAt dd_BT_walk 21 rfl) rfl ?_
                  refine v_bipush G 17 (decAt dd_BT_walk 22 rfl) (by decide) ?_
                  refine v_icmp_eq G 45 (decAt dd_BT_walk 23 rfl) (by decide) (fun c36 => absurd c36 (by decide)) (fun _ => ?_)
                  refine v_iload_n G (decAt dd_BT_walk 24 rfl) rfl ?_
                  refine v_bipush G 20 (decAt dd_BT_walk 25 rfl) (by decide) ?_
                  refine v_icmp_ne G 46 (decAt dd_BT_walk 26 rfl) (by decide) (fun _ => ?_) (fun c42 => absurd c42 (by decide))
                  refine v_iload_n G (decAt dd_BT_walk 28 rfl) rfl ?_
                  refine v_bipush G 14 (decAt dd_BT_walk 29 rfl) (by decide) ?_
                  refine v_icmp_eq G 58 (decAt dd_BT_walk 30 rfl) (by decide) (fun c49 => absurd c49 (by decide)) (fun _ => ?_)
                  refine v_iload_n G (decAt dd_BT_walk 31 rfl) rfl ?_
                  refine v_bipush G 15 (decAt dd_BT_walk 32 rfl) (by decide) ?_
                  refine v_icmp_ne G 90 (decAt dd_BT_walk 33 rfl) (by decide) (fun c55 => absurd c55 (by decide)) (fun _ => ?_)
                  refine v_aload_n G (decAt dd_BT_walk 34 rfl) rfl ?_
                  refine v_geta G (decAt dd_BT_walk 35 rfl) f_BT_25 ?_
                  refine v_aload_n G (decAt dd_BT_walk 36 rfl) rfl ?_
                  refine v_geti G (decAt dd_BT_walk 37 rfl) f_BT_56 ?_
                  refine v_ri (y := (nI fol1.length)) up2_self ?_
                  refine v_aload_n G (decAt dd_BT_walk 38 rfl) rfl ?_
                  refine v_geta G (decAt dd_BT_walk 39 rfl) f_BT_22 ?_
                  refine v_aload_n G (decAt dd_BT_walk 40 rfl) rfl ?_
                  refine v_geta G (decAt dd_BT_walk 41 rfl) f_BT_9 ?_
                  refine v_iload_n G (decAt dd_BT_walk 42 rfl) rfl ?_
                  refine v_iconst G 1 (decAt dd_BT_walk 43 rfl) (by decide) ?_
                  refine v_iadd G (decAt dd_BT_walk 44 rfl) ?_
                  refine v_ri (y := (nI (2 * t1 + 1))) (nI_1 _) ?_
                  refine v_iald G 12 (2 * t1 + 1) (decAt dd_BT_walk 45 rfl) (by decide) rfl rfl (by omega) ?_
                  refine v_ri (y := nI y) (q2.trans hy2) ?_
                  refine v_iald G 15 y (decAt dd_BT_walk 46 rfl) (by decide) rfl rfl (by omega) ?_
                  refine v_ri (y := nI (2 * j)) hWj ?_
                  refine v_iast G 16 fol1.length (decAt dd_BT_walk 47 rfl) (by decide) rfl rfl (by omega) ?_
                  refine v_aload_n G (decAt dd_BT_walk 48 rfl) rfl ?_
                  refine v_dup G (decAt dd_BT_walk 49 rfl) rfl ?_
                  refine v_geti G (decAt dd_BT_walk 50 rfl) f_BT_56 ?_
                  refine v_ri (y := (nI fol1.length)) up2_self ?_
                  refine v_iconst G 1 (decAt dd_BT_walk 51 rfl) (by decide) ?_
                  refine v_iadd G (decAt dd_BT_walk 52 rfl) ?_
                  refine v_ri (y := (nI (fol1.length + 1))) (nI_1 _) ?_
                  refine v_puti G (decAt dd_BT_walk 53 rfl) f_BT_56 rfl rfl rfl ?_
                  refine v_iload_n G (decAt dd_BT_walk 54 rfl) rfl ?_
                  refine v_bipush G 13 (decAt dd_BT_walk 55 rfl) (by decide) ?_
                  refine v_icmp_eq G 102 (decAt dd_BT_walk 56 rfl) (by decide) (fun c93 => absurd c93 (by decide)) (fun _ => ?_)
                  refine v_iload_n G (decAt dd_BT_walk 57 rfl) rfl ?_
                  refine v_bipush G 25 (decAt dd_BT_walk 58 rfl) (by decide) ?_
                  refine v_icmp_ne G 118 (decAt dd_BT_walk 59 rfl) (by decide) (fun _ => ?_) (fun c99 => absurd c99 (by decide))
                  refine v_iload_n G (decAt dd_BT_walk 70 rfl) rfl ?_
                  refine v_iconst G 2 (decAt dd_BT_walk 71 rfl) (by decide) ?_
                  refine v_iadd G (decAt dd_BT_walk 72 rfl) ?_
                  refine v_ri (y := (nI (2 * (t1 + 1)))) (nI_add (2 * t1) 2) ?_
                  refine v_istore_2 G (decAt dd_BT_walk 73 rfl) (by decide) rfl ?_
                  refine v_goto G 2 (decAt dd_BT_walk 74 rfl) (by decide) ?_
                  refine v_stg (up2_up2 _ _ _ _ _) ?_
                  exact ih _ (t1 + 1) (j :: fol1) _ (fun i h1 h2 => by rw [va_up_ne _ _ h2, va_up_ne _ _ h1]; exact hfr i h1 h2) hgo.1 hR' (by omega) (by have := hgo.2; show 2 * cnt (fun i => va_up (A1 14) (2 * t1) 1 (2 * i)) c.length + (fol1.length + 1) ≤ _; omega) (by have := hgo.2; show cnt (fun i => va_up (A1 14) (2 * t1) 1 (2 * i)) c.length < μ; omega)
              · skip
                by_cases hb0 : N = 10
                · skip
                  subst hb0
                  obtain ⟨j, hj⟩ := hlb (by omega)
                  obtain ⟨y, hy1, hy2, hy3⟩ := inR_nI (argOK_lab hao (by omega))
                  have hWj : A1 15 y = nI (2 * j) := by rw [hfr 15 (by decide) (by decide), ← hy3]; exact hW x j hj
                  have hjl : j < c.length := lbl_lt hj
                  have hgo := hI.go (fol' := fol1) (pend := some j) hlt h0 (fun _ h => h) (fun x' h => Or.inl h) (by omega) (fun x' h => by cases h; exact (hSn _).mpr (Or.inr ⟨by omega, hj⟩)) (fun x' hx _ => ((hSn x').mp hx).elim (fun h => absurd rfl h.2.2.1) (fun h => Or.inr (by rw [show x' = j from Option.some.inj (h.2.symm.trans hj)])))
                  refine v_aload_n G (decAt dd_BT_walk 16 rfl) rfl ?_
                  refine v_geta G (decAt dd_BT_walk 17 rfl) f_BT_9 ?_
                  refine v_iload_n G (decAt dd_BT_walk 18 rfl) rfl ?_
                  refine v_iald G 12 (2 * t1) (decAt dd_BT_walk 19 rfl) (by decide) rfl rfl (by omega) ?_
                  refine v_ri (y := 13) q1 ?_
                  refine v_istore_3 G (decAt dd_BT_walk 20 rfl) (by decide) rfl ?_
                  refine v_iload_n G (decAt dd_BT_walk 21 rfl) rfl ?_
                  refine v_bipush G 17 (decAt dd_BT_walk 22 rfl) (by decide) ?_
                  refine v_icmp_eq G 45 (decAt dd_BT_walk 23 rfl) (by decide) (fun c36 => absurd c36 (by decide)) (fun _ => ?_)
                  refine v_iload_n G (decAt dd_BT_walk 24 rfl) rfl ?_
                  refine v_bipush G 20 (decAt dd_BT_walk 25 rfl) (by decide) ?_
                  refine v_icmp_ne G 46 (decAt dd_BT_walk 26 rfl) (by decide) (fun _ => ?_) (fun c42 => absurd c42 (by decide))
                  refine v_iload_n G (decAt dd_BT_walk 28 rfl) rfl ?_
                  refine v_bipush G 14 (decAt dd_BT_walk 29 rfl) (by decide) ?_
                  refine v_icmp_eq G 58 (decAt dd_BT_walk 30 rfl) (by decide) (fun c49 => absurd c49 (by decide)) (fun _ => ?_)
                  refine v_iload_n G (decAt dd_BT_walk 31 rfl) rfl ?_
                  refine v_bipush G 15 (decAt dd_BT_walk 32 rfl) (by decide) ?_
                  refine v_icmp_ne G 90 (decAt dd_BT_walk 33 rfl) (by decide) (fun _ => ?_) (fun c55 => absurd c55 (by decide))
                  refine v_iload_n G (decAt dd_BT_walk 54 rfl) rfl ?_
                  refine v_bipush G 13 (decAt dd_BT_walk 55 rfl) (by decide) ?_
                  refine v_icmp_eq G 102 (decAt dd_BT_walk 56 rfl) (by decide) (fun _ => ?_) (fun c93 => absurd c93 (by decide))
                  refine v_aload_n G (decAt dd_BT_walk 60 rfl) rfl ?_
                  refine v_geta G (decAt dd_BT_walk 61 rfl) f_BT_22 ?_
                  refine v_aload_n G (decAt dd_BT_walk 62 rfl) rfl ?_
                  refine v_geta G (decAt dd_BT_walk 63 rfl) f_BT_9 ?_
                  refine v_iload_n G (decAt dd_BT_walk 64 rfl) rfl ?_
                  refine v_iconst G 1 (decAt dd_BT_walk 65 rfl) (by decide) ?_
                  refine v_iadd G (decAt dd_BT_walk 66 rfl) ?_
                  refine v_ri (y := (nI (2 * t1 + 1))) (nI_1 _) ?_
                  refine v_iald G 12 (2 * t1 + 1) (decAt dd_BT_walk 67 rfl) (by decide) rfl rfl (by omega) ?_
                  refine v_ri (y := nI y) (q2.trans hy2) ?_
                  refine v_iald G 15 y (decAt dd_BT_walk 68 rfl) (by decide) rfl rfl (by omega) ?_
                  refine v_ri (y := nI (2 * j)) hWj ?_
                  refine v_goto G 121 (decAt dd_BT_walk 69 rfl) (by decide) ?_
                  refine v_istore_2 G (decAt dd_BT_walk 73 rfl) (by decide) rfl ?_
                  refine v_goto G 2 (decAt dd_BT_walk 74 rfl) (by decide) ?_
                  exact ih _ j fol1 _ (fun i h1 h2 => by rw [va_up_ne _ _ h1]; exact hfr i h1 h2) hgo.1 hR (by omega) (by have := hgo.2; show 2 * cnt (fun i => va_up (A1 14) (2 * t1) 1 (2 * i)) c.length + fol1.length ≤ _; omega) (by have := hgo.2; show cnt (fun i => va_up (A1 14) (2 * t1) 1 (2 * i)) c.length < μ; omega)
                · skip
                  have hgo := hI.go (fol' := fol1) (pend := some (t1 + 1)) hlt h0 (fun _ h => h) (fun x' h => Or.inl h) (by omega) (fun x' h => by cases h; exact (hSn _).mpr (Or.inl ⟨fun z => hs (Or.inl z), fun z => hs (Or.inr z), hb0, rfl⟩)) (fun x' hx _ => ((hSn x').mp hx).elim (fun h => Or.inr (by rw [h.2.2.2])) (fun h => absurd h.1 (by omega)))
                  refine v_aload_n G (decAt dd_BT_walk 16 rfl) rfl ?_
                  refine v_geta G (decAt dd_BT_walk 17 rfl) f_BT_9 ?_
                  refine v_iload_n G (decAt dd_BT_walk 18 rfl) rfl ?_
                  refine v_iald G 12 (2 * t1) (decAt dd_BT_walk 19 rfl) (by decide) rfl rfl (by omega) ?_
                  refine v_ri (y := stv 2 N) q1 ?_
                  refine v_istore_3 G (decAt dd_BT_walk 20 rfl) (by decide) rfl ?_
                  refine v_iload_n G (decAt dd_BT_walk 21 rfl) rfl ?_
                  refine v_bipush G 17 (decAt dd_BT_walk 22 rfl) (by decide) ?_
                  refine v_icmp_eq G 45 (decAt dd_BT_walk 23 rfl) (by decide) (fun c36 => ?_) (fun c36 => ?_)
                  · skip
                    exact absurd (by first | exact c36 | exact Classical.not_not.mp c36) (ne 16 (by omega) (by omega))
                  · skip
                    refine v_iload_n G (decAt dd_BT_walk 24 rfl) rfl ?_
                    refine v_bipush G 20 (decAt dd_BT_walk 25 rfl) (by decide) ?_
                    refine v_icmp_ne G 46 (decAt dd_BT_walk 26 rfl) (by decide) (fun c42 => ?_) (fun c42 => ?_)
                    · skip
                      refine v_iload_n G (decAt dd_BT_walk 28 rfl) rfl ?_
                      refine v_bipush G 14 (decAt dd_BT_walk 29 rfl) (by decide) ?_
                      refine v_icmp_eq G 58 (decAt dd_BT_walk 30 rfl) (by decide) (fun c49 => ?_) (fun c49 => ?_)
                      · skip
                        exact absurd (by first | exact c49 | exact Classical.not_not.mp c49) (ne 11 (by omega) (by omega))
                      · skip
                        refine v_iload_n G (decAt dd_BT_walk 31 rfl) rfl ?_
                        refine v_bipush G 15 (decAt dd_BT_walk 32 rfl) (by decide) ?_
                        refine v_icmp_ne G 90 (decAt dd_BT_walk 33 rfl) (by decide) (fun c55 => ?_) (fun c55 => ?_)
                        · skip
                          refine v_iload_n G (decAt dd_BT_walk 54 rfl) rfl ?_
                          refine v_bipush G 13 (decAt dd_BT_walk 55 rfl) (by decide) ?_
                          refine v_icmp_eq G 102 (decAt dd_BT_walk 56 rfl) (by decide) (fun c93 => ?_) (fun c93 => ?_)
                          · skip
                            exact absurd (by first | exact c93 | exact Classical.not_not.mp c93) (ne 10 (by omega) (by omega))
                          · skip
                            refine v_iload_n G (decAt dd_BT_walk 57 rfl) rfl ?_
                            refine v_bipush G 25 (decAt dd_BT_walk 58 rfl) (by decide) ?_
                            refine v_icmp_ne G 118 (decAt dd_BT_walk 59 rfl) (by decide) (fun c99 => ?_) (fun c99 => ?_)
                            · skip
                              refine v_iload_n G (decAt dd_BT_walk 70 rfl) rfl ?_
                              refine v_iconst G 2 (decAt dd_BT_walk 71 rfl) (by decide) ?_
                              refine v_iadd G (decAt dd_BT_walk 72 rfl) ?_
                              refine v_ri (y := (nI (2 * (t1 + 1)))) (nI_add (2 * t1) 2) ?_
                              refine v_istore_2 G (decAt dd_BT_walk 73 rfl) (by decide) rfl ?_
                              refine v_goto G 2 (decAt dd_BT_walk 74 rfl) (by decide) ?_
                              exact ih _ (t1 + 1) fol1 _ (fun i h1 h2 => by rw [va_up_ne _ _ h1]; exact hfr i h1 h2) hgo.1 hR (by omega) (by have := hgo.2; show 2 * cnt (fun i => va_up (A1 14) (2 * t1) 1 (2 * i)) c.length + fol1.length ≤ _; omega) (by have := hgo.2; show cnt (fun i => va_up (A1 14) (2 * t1) 1 (2 * i)) c.length < μ; omega)
                            · skip
                              exact absurd (by first | exact c99 | exact Classical.not_not.mp c99) (stv2_25 N q3)
                        · skip
                          exact absurd (by first | exact c55 | exact Classical.not_not.mp c55) (ne 12 (by omega) (by omega))
                    · skip
                      exact absurd (by first | exact c42 | exact Classical.not_not.mp c42) (ne 17 (by omega) (by omega))
      · skip
        refine v_iload_n G (decAt dd_BT_walk 2 rfl) rfl ?_
        refine v_aload_n G (decAt dd_BT_walk 3 rfl) rfl ?_
        refine v_geti G (decAt dd_BT_walk 4 rfl) f_BT_46 ?_
        refine v_ri (y := (nI (2 * c.length))) ((up2_ne (by decide)).trans hN) ?_
        refine v_icmp_ge G 125 (decAt dd_BT_walk 5 rfl) (by decide) (fun c7 => ?_) (fun c7 => ?_)
        · skip
          exact v_vret G (decAt dd_BT_walk 75 rfl) rfl ⟨rfl, fol1, hI.done hc0 (Or.inl (by omega)), hR, hm, rfl, rfl, hfr, rfl, rfl⟩
        · skip
          exact absurd (nI_le (by omega) (by omega)) c7
  refine v_iload_n G (decAt dd_BT_walk 0 rfl) rfl ?_
  refine v_istore_2 G (decAt dd_BT_walk 1 rfl) (by decide) rfl ?_
  refine v_stg (up2_id hF).symm ?_
  exact J2 _ A t fol none (fun _ _ _ => rfl) hI hR ht (Nat.le_refl _) (Nat.lt_succ_self _)
/-- what is come to, told by the array -/
def LvD (c : Cod) (lv : Nat → Int32) : Prop := ∀ i, i < c.length → ((lv (2 * i) = 1 ∧ SR c i) ∨ (lv (2 * i) = 0 ∧ ¬ SR c i))
theorem LvI.fin {c : Cod} {lv : Nat → Int32} (hL : LabC c) (h : LvI c lv [] none) : LvD c lv := by
  obtain ⟨h1, h2, h3, h4, h5, h6, h7⟩ := h
  have key : ∀ i, SR c i → i < c.length → lv (2 * i) = 1 := fun i hi => hi (fun i => i < c.length → lv (2 * i) = 1) (fun _ => (h6.resolve_right (fun z => z.elim (fun q => by cases q) (fun q => by cases q)))) (fun i t hp hs ht => by
    obtain ⟨n, k, hq, -⟩ := id hs
    have hil := (List.getElem?_eq_some_iff.mp hq).1
    exact (h5 i t hil (hp hil) hs ht).elim id (fun z => z.elim (fun q => by cases q) (fun q => by cases q)))
  intro i hi
  rcases h1 i hi with q | q
  · exact Or.inr ⟨q, fun z => by rw [key i z hi] at q; exact absurd q (by decide)⟩
  · exact Or.inl ⟨q, h2 i hi q⟩
theorem lblF_spec : ∀ (c : Cod) (lab : Int32) (i0 : Nat), (lblF c lab i0 = none ∧ ∀ j : Nat, ¬ c[j]? = some (13, lab)) ∨ (∃ j, lblF c lab i0 = some (i0 + j) ∧ c[j]? = some (13, lab))
  | [], lab, i0 => Or.inl ⟨rfl, fun j h => by simp at h⟩
  | (n, k) :: r, lab, i0 => by
    by_cases h : n = 13 ∧ k = lab
    · exact Or.inr ⟨0, if_pos h, by rw [List.getElem?_cons_zero, h.1, h.2]⟩
    · rcases lblF_spec r lab (i0 + 1) with ⟨h1, h2⟩ | ⟨j, h1, h2⟩
      · refine Or.inl ⟨(if_neg h).trans h1, fun j hj => ?_⟩
        cases j with
        | zero => simp at hj; exact h hj
        | succ j => exact h2 j (by simpa using hj)
      · exact Or.inr ⟨j + 1, (if_neg h).trans (h1.trans (by rw [show i0 + 1 + j = i0 + (j + 1) by omega])), by simpa using h2⟩
theorem i32_cl {a b : Int32} {m : Nat} (ha : inR a m = true) (hb : inR b m = true) (h : a.toNatClampNeg = b.toNatClampNeg) : a = b := by
  obtain ⟨x, -, e1, e2⟩ := inR_nI ha
  obtain ⟨y, -, e3, e4⟩ := inR_nI hb
  rw [e1, e3, show x = y by omega]

set_option maxHeartbeats 4000000 in
theorem c_BT_mark (l : Launch) {E : Bs} (hE : Hb E) {ρ : Nat → Nat} {g A : Nat → Nat → Int32} {n : Nat → Nat} {tx : Value} {c : Cod} (hn : BN n) (hlen : c.length ≤ 64) (hc0 : 0 < c.length) (hN : g 2 2 = nI (2 * c.length)) (hC : CdI (A 12) c) (hL : LabC c) : CW l E DC AC y_BT_mark b_BT_mark 2 none ({ frames := 1, cells := 0, slots := 0, locals := 23 } : Room) [.ref (E.o 2)] ρ g A n tx (fun r ρ' g' A' n' tx' => r = none ∧ LvD c (A' 14) ∧ ρ' = ρ ∧ g' = up2 g 2 7 0 ∧ (∀ i, i ≠ 14 → i ≠ 15 → i ≠ 16 → A' i = A i) ∧ n' = n ∧ tx' = tx) := by
  obtain ⟨hb12, hb13, hb14, hb15, hb16⟩ := hn
  refine CW.start [some (.ref (E.o 2)), none] hE (by decide) (Nat.le_of_ble_eq_true rfl) rfl ?_
  intro p e s m args below meth c1 G
  have J74 : ∀ (μ : Nat) (A1 : Nat → Nat → Int32) (fol1 : List Nat) (x1 : Option Value), (∀ i, i ≠ 14 → i ≠ 15 → i ≠ 16 → A1 i = A i) → WhI c (A1 15) → LvI c (A1 14) fol1 none → RowIs (A1 16) (fmap fol1) → 2 * cnt (fun i => A1 14 (2 * i)) c.length + fol1.length < μ → V p l e ({ frames := 1, cells := 0, slots := 0, locals := 23 } : Room) s m args below meth c1 2 (Sy E DC AC s.heap ρ (up2 g 2 7 (nI fol1.length)) A1 n tx) 0 0 (MQ below (QW E DC AC (fun r ρ' g' A' n' tx' => r = none ∧ LvD c (A' 14) ∧ ρ' = ρ ∧ g' = up2 g 2 7 0 ∧ (∀ i, i ≠ 14 → i ≠ 15 → i ≠ 16 → A' i = A i) ∧ n' = n ∧ tx' = tx)) args s 0 0 E.F) 74 [some (.ref (E.o 2)), x1] [] := by
    intro μ
    induction μ with
    | zero => intro A1 fol1 x1 hfr hW hI hR hμ; exact absurd hμ (by omega)
    | succ μ ih =>
      intro A1 fol1 x1 hfr hW hI hR hμ
      rcases fol1 with _ | ⟨t, fol1⟩
      · skip
        refine v_aload_n G (decAt dd_BT_mark 43 rfl) rfl ?_
        refine v_geti G (decAt dd_BT_mark 44 rfl) f_BT_56 ?_
        refine v_ri (y := (nI 0)) up2_self ?_
        refine v_if_le G 107 (decAt dd_BT_mark 45 rfl) (by decide) (fun _ => ?_) (fun c78 => absurd c78 (by decide))
        exact v_vret G (decAt dd_BT_mark 60 rfl) rfl ⟨rfl, hI.fin hL, rfl, rfl, hfr, rfl, rfl⟩
      · skip
        have hfl : fol1.length < 256 := by have := hI.2.2.2.2.2.2; simp only [List.length_cons] at this; omega
        have hs : A1 16 fol1.length = nI (2 * t) := by have := hR.1; rwa [show (List.map (fun t => nI (2 * t)) fol1).length = fol1.length from List.length_map _] at this
        have hI2 : LvI c (A1 14) fol1 (some t) := by
          obtain ⟨h1, h2, h3, h4, h5, h6, h7⟩ := hI
          refine ⟨h1, h2, fun x hx => h3 x (List.mem_cons_of_mem _ hx), fun x hx => by cases hx; exact (h3 _ List.mem_cons_self).1, fun i x hi hl hs hx => ?_, ?_, by simp only [List.length_cons] at h7; omega⟩
          · rcases h5 i x hi hl hs hx with q | q | q
            · exact Or.inl q
            · exact Or.inr ((List.mem_cons.mp q).elim (fun e => Or.inr (by rw [e])) Or.inl)
            · cases q
          · rcases h6 with q | q | q
            · exact Or.inl q
            · exact Or.inr ((List.mem_cons.mp q).elim (fun e => Or.inr (by rw [e])) Or.inl)
            · cases q
        have htl : t < c.length := (hI.2.2.1 t List.mem_cons_self).2
        refine v_aload_n G (decAt dd_BT_mark 43 rfl) rfl ?_
        refine v_geti G (decAt dd_BT_mark 44 rfl) f_BT_56 ?_
        refine v_ri (y := (nI (fol1.length + 1))) up2_self ?_
        refine v_if_le G 107 (decAt dd_BT_mark 45 rfl) (by decide) (fun c78 => ?_) (fun c78 => ?_)
        · skip
          exact absurd c78 (nI_nle (by omega) (by omega))
        · skip
          refine v_aload_n G (decAt dd_BT_mark 46 rfl) rfl ?_
          refine v_dup G (decAt dd_BT_mark 47 rfl) rfl ?_
          refine v_geti G (decAt dd_BT_mark 48 rfl) f_BT_56 ?_
          refine v_ri (y := (nI (fol1.length + 1))) up2_self ?_
          refine v_iconst G 1 (decAt dd_BT_mark 49 rfl) (by decide) ?_
          refine v_isub G (decAt dd_BT_mark 50 rfl) ?_
          refine v_ri (y := (nI fol1.length)) (nI_pred _) ?_
          refine v_puti G (decAt dd_BT_mark 51 rfl) f_BT_56 rfl rfl rfl ?_
          refine v_aload_n G (decAt dd_BT_mark 52 rfl) rfl ?_
          refine v_aload_n G (decAt dd_BT_mark 53 rfl) rfl ?_
          refine v_geta G (decAt dd_BT_mark 54 rfl) f_BT_25 ?_
          refine v_aload_n G (decAt dd_BT_mark 55 rfl) rfl ?_
          refine v_geti G (decAt dd_BT_mark 56 rfl) f_BT_56 ?_
          refine v_ri (y := (nI fol1.length)) rfl ?_
          refine v_iald G 16 fol1.length (decAt dd_BT_mark 57 rfl) (by decide) rfl rfl (by omega) ?_
          refine v_ri (y := nI (2 * t)) hs ?_
          refine v_stg (up2_up2 _ _ _ _ _) ?_
          refine v_callVv0 G (As := [.int (nI (2 * t))]) (decAt dd_BT_mark 58 rfl) k_BT_59 (c_BT_walk l hE (c := c) (fol := fol1) (t := t) (g := up2 g 2 7 (nI fol1.length)) (A := A1) ⟨hb12, hb13, hb14, hb15, hb16⟩ hlen hc0 ((up2_ne (by decide)).trans hN) (by rw [hfr 12 (by decide) (by decide) (by decide)]; exact hC) hL hW up2_self hR.2 hI2 (by omega)) (by decide) rfl rfl rfl (Nat.le_of_ble_eq_true rfl) (by decide) rfl rfl (by decide) ?_
          rintro ρ9 g9 A9 n9 tx9 ⟨fol9, hI9, hR9, hm9, e1, e2, hfr9, e3, e4⟩
          replace e1 := e1.symm; subst e1; subst e2; replace e3 := e3.symm; subst e3; replace e4 := e4.symm; subst e4
          refine v_stg (up2_up2 _ _ _ _ _) ?_
          refine v_goto G 74 (decAt dd_BT_mark 59 rfl) (by decide) ?_
          refine ih A9 fol9 _ (fun i h1 h2 h3 => (hfr9 i h1 h3).trans (hfr i h1 h2 h3)) (by rw [hfr9 15 (by decide) (by decide)]; exact hW) hI9 hR9 ?_
          simp only [List.length_cons] at hμ
          omega
  have J25 : ∀ (d i : Nat) (A1 : Nat → Nat → Int32), i + d = c.length → (∀ i, i ≠ 14 → i ≠ 15 → i ≠ 16 → A1 i = A i) → (∀ j, j < 2 * c.length → A1 14 j = 0) → (∀ j lab, j < i → c[j]? = some (13, lab) → A1 15 lab.toNatClampNeg = nI (2 * j)) → V p l e ({ frames := 1, cells := 0, slots := 0, locals := 23 } : Room) s m args below meth c1 2 (Sy E DC AC s.heap ρ g A1 n tx) 0 0 (MQ below (QW E DC AC (fun r ρ' g' A' n' tx' => r = none ∧ LvD c (A' 14) ∧ ρ' = ρ ∧ g' = up2 g 2 7 0 ∧ (∀ i, i ≠ 14 → i ≠ 15 → i ≠ 16 → A' i = A i) ∧ n' = n ∧ tx' = tx)) args s 0 0 E.F) 25 [some (.ref (E.o 2)), some (.int (nI (2 * i)))] [] := by
    intro d
    induction d with
    | zero =>
      intro i A1 hi hfr hz hW
      refine v_iload_n G (decAt dd_BT_mark 15 rfl) rfl ?_
      refine v_aload_n G (decAt dd_BT_mark 16 rfl) rfl ?_
      refine v_geti G (decAt dd_BT_mark 17 rfl) f_BT_46 ?_
      refine v_ri (y := (nI (2 * c.length))) hN ?_
      refine v_icmp_ge G 64 (decAt dd_BT_mark 18 rfl) (by decide) (fun c30 => ?_) (fun c30 => ?_)
      · skip
        refine v_aload_n G (decAt dd_BT_mark 37 rfl) rfl ?_
        refine v_iconst G 0 (decAt dd_BT_mark 38 rfl) (by decide) ?_
        refine v_puti G (decAt dd_BT_mark 39 rfl) f_BT_56 rfl rfl rfl ?_
        refine v_aload_n G (decAt dd_BT_mark 40 rfl) rfl ?_
        refine v_iconst G 0 (decAt dd_BT_mark 41 rfl) (by decide) ?_
        have hWh : WhI c (A1 15) := fun lab j hj => hW j lab (by have := lbl_lt hj; omega) (lbl_ok hj)
        have hcl : cnt (fun i => A1 14 (2 * i)) c.length ≤ c.length := cnt_le _ _
        have hI0 : LvI c (A1 14) [] (some 0) := ⟨fun i hi => Or.inl (hz _ (by omega)), fun i hi h => by rw [hz _ (by omega)] at h; exact absurd h (by decide), fun t h => (by cases h), fun t h => (by cases h; exact SR.zero c), fun i t hi h => (by rw [hz _ (by omega)] at h; exact absurd h (by decide)), Or.inr (Or.inr rfl), by simp only [List.length_nil]; omega⟩
        refine v_callVv0 G (As := [.int (nI (2 * 0))]) (decAt dd_BT_mark 42 rfl) k_BT_59 (c_BT_walk l hE (c := c) (fol := []) (t := 0) (g := up2 g 2 7 0) (A := A1) ⟨hb12, hb13, hb14, hb15, hb16⟩ hlen hc0 ((up2_ne (by decide)).trans hN) (by rw [hfr 12 (by decide) (by decide) (by decide)]; exact hC) hL hWh up2_self trivial hI0 (by omega)) (by decide) rfl rfl rfl (Nat.le_of_ble_eq_true rfl) (by decide) rfl rfl (by decide) ?_
        rintro ρ9 g9 A9 n9 tx9 ⟨fol9, hI9, hR9, hm9, e1, e2, hfr9, e3, e4⟩
        replace e1 := e1.symm; subst e1; subst e2; replace e3 := e3.symm; subst e3; replace e4 := e4.symm; subst e4
        refine v_stg (up2_up2 _ _ _ _ _) ?_
        exact J74 _ A9 fol9 _ (fun i h1 h2 h3 => (hfr9 i h1 h3).trans (hfr i h1 h2 h3)) (by rw [hfr9 15 (by decide) (by decide)]; exact hWh) hI9 hR9 (Nat.lt_succ_self _)
      · skip
        exact absurd (nI_le (by omega) (by omega)) c30
    | succ d ih =>
      intro i A1 hi hfr hz hW
      obtain ⟨⟨N, x⟩, hq⟩ : ∃ z, c[i]? = some z := ⟨c[i], List.getElem?_eq_getElem (by omega)⟩
      obtain ⟨q1, q2, q3⟩ := hC i N x hq
      rw [← hfr 12 (by decide) (by decide) (by decide)] at q1 q2
      obtain ⟨-, hao, h13, hlb, -⟩ := hL i N x hq
      refine v_iload_n G (decAt dd_BT_mark 15 rfl) rfl ?_
      refine v_aload_n G (decAt dd_BT_mark 16 rfl) rfl ?_
      refine v_geti G (decAt dd_BT_mark 17 rfl) f_BT_46 ?_
      refine v_ri (y := (nI (2 * c.length))) hN ?_
      refine v_icmp_ge G 64 (decAt dd_BT_mark 18 rfl) (by decide) (fun c30 => ?_) (fun c30 => ?_)
      · skip
        exact absurd c30 (nI_ge (by omega) (by omega))
      · skip
        refine v_aload_n G (decAt dd_BT_mark 19 rfl) rfl ?_
        refine v_geta G (decAt dd_BT_mark 20 rfl) f_BT_9 ?_
        refine v_iload_n G (decAt dd_BT_mark 21 rfl) rfl ?_
        refine v_iald G 12 (2 * i) (decAt dd_BT_mark 22 rfl) (by decide) rfl rfl (by omega) ?_
        refine v_ri (y := stv 2 N) q1 ?_
        refine v_bipush G 22 (decAt dd_BT_mark 23 rfl) (by decide) ?_
        refine v_icmp_ne G 58 (decAt dd_BT_mark 24 rfl) (by decide) (fun c41 => ?_) (fun c41 => ?_)
        · skip
          refine v_iinc_1 G (nI (2 * (i + 1))) (decAt dd_BT_mark 35 rfl) ((nI_add (2 * i) 2)) (by decide) rfl ?_
          refine v_goto G 25 (decAt dd_BT_mark 36 rfl) (by decide) ?_
          refine ih (i + 1) _ (by omega) hfr hz (fun j lab hj hjq => ?_)
          by_cases e : j = i
          · subst e
            rw [hq] at hjq
            cases hjq
            exact absurd rfl c41
          · exact hW j lab (by omega) hjq
        · skip
          have hN13 : N = 13 := stv2_inj N q3 13 (by omega) (by first | exact c41 | exact Classical.not_not.mp c41)
          subst hN13
          obtain ⟨y, hy1, hy2, hy3⟩ := inR_nI (argOK_lab hao (by omega))
          refine v_aload_n G (decAt dd_BT_mark 25 rfl) rfl ?_
          refine v_geta G (decAt dd_BT_mark 26 rfl) f_BT_22 ?_
          refine v_aload_n G (decAt dd_BT_mark 27 rfl) rfl ?_
          refine v_geta G (decAt dd_BT_mark 28 rfl) f_BT_9 ?_
          refine v_iload_n G (decAt dd_BT_mark 29 rfl) rfl ?_
          refine v_iconst G 1 (decAt dd_BT_mark 30 rfl) (by decide) ?_
          refine v_iadd G (decAt dd_BT_mark 31 rfl) ?_
          refine v_ri (y := (nI (2 * i + 1))) (nI_1 _) ?_
          refine v_iald G 12 (2 * i + 1) (decAt dd_BT_mark 32 rfl) (by decide) rfl rfl (by omega) ?_
          refine v_ri (y := nI y) (q2.trans hy2) ?_
          refine v_iload_n G (decAt dd_BT_mark 33 rfl) rfl ?_
          refine v_iast G 15 y (decAt dd_BT_mark 34 rfl) (by decide) rfl rfl (by omega) ?_
          refine v_iinc_1 G (nI (2 * (i + 1))) (decAt dd_BT_mark 35 rfl) ((nI_add (2 * i) 2)) (by decide) rfl ?_
          refine v_goto G 25 (decAt dd_BT_mark 36 rfl) (by decide) ?_
          refine ih (i + 1) _ (by omega) (fun j h1 h2 h3 => by rw [va_up_ne _ _ h2]; exact hfr j h1 h2 h3) hz (fun j lab hj hjq => ?_)
          show va_up (A1 15) y (nI (2 * i)) lab.toNatClampNeg = nI (2 * j)
          by_cases e : j = i
          · subst e
            rw [hq] at hjq
            cases hjq
            rw [hy3]; exact va_up_self _ _ _
          · rw [va_up_ne _ _ (fun z => e ?_)]
            · exact hW j lab (by omega) hjq
            · obtain ⟨-, hao2, h132, -, -⟩ := hL j 13 lab hjq
              have hlx : lab = x := i32_cl (argOK_lab hao2 (by omega)) (argOK_lab hao (by omega)) (z.trans hy3.symm)
              have h1 := h132 rfl
              rw [hlx, h13 rfl] at h1
              exact (Option.some.inj h1).symm
  have J2 : ∀ (d i : Nat) (A1 : Nat → Nat → Int32), i + d = 2 * c.length → (∀ i, i ≠ 14 → i ≠ 15 → i ≠ 16 → A1 i = A i) → (∀ j, j < i → A1 14 j = 0) → V p l e ({ frames := 1, cells := 0, slots := 0, locals := 23 } : Room) s m args below meth c1 2 (Sy E DC AC s.heap ρ g A1 n tx) 0 0 (MQ below (QW E DC AC (fun r ρ' g' A' n' tx' => r = none ∧ LvD c (A' 14) ∧ ρ' = ρ ∧ g' = up2 g 2 7 0 ∧ (∀ i, i ≠ 14 → i ≠ 15 → i ≠ 16 → A' i = A i) ∧ n' = n ∧ tx' = tx)) args s 0 0 E.F) 2 [some (.ref (E.o 2)), some (.int (nI i))] [] := by
    intro d
    induction d with
    | zero =>
      intro i A1 hi hfr hz
      refine v_iload_n G (decAt dd_BT_mark 2 rfl) rfl ?_
      refine v_aload_n G (decAt dd_BT_mark 3 rfl) rfl ?_
      refine v_geti G (decAt dd_BT_mark 4 rfl) f_BT_46 ?_
      refine v_ri (y := (nI (2 * c.length))) hN ?_
      refine v_icmp_ge G 23 (decAt dd_BT_mark 5 rfl) (by decide) (fun c7 => ?_) (fun c7 => ?_)
      · skip
        refine v_iconst G 0 (decAt dd_BT_mark 13 rfl) (by decide) ?_
        refine v_istore_1 G (decAt dd_BT_mark 14 rfl) (by decide) rfl ?_
        exact J25 c.length 0 A1 (by omega) hfr (fun j hj => hz j (by omega)) (fun j lab hj => absurd hj (by omega))
      · skip
        exact absurd (nI_le (by omega) (by omega)) c7
    | succ d ih =>
      intro i A1 hi hfr hz
      refine v_iload_n G (decAt dd_BT_mark 2 rfl) rfl ?_
      refine v_aload_n G (decAt dd_BT_mark 3 rfl) rfl ?_
      refine v_geti G (decAt dd_BT_mark 4 rfl) f_BT_46 ?_
      refine v_ri (y := (nI (2 * c.length))) hN ?_
      refine v_icmp_ge G 23 (decAt dd_BT_mark 5 rfl) (by decide) (fun c7 => ?_) (fun c7 => ?_)
      · skip
        exact absurd c7 (nI_ge (by omega) (by omega))
      · skip
        refine v_aload_n G (decAt dd_BT_mark 6 rfl) rfl ?_
        refine v_geta G (decAt dd_BT_mark 7 rfl) f_BT_18 ?_
        refine v_iload_n G (decAt dd_BT_mark 8 rfl) rfl ?_
        refine v_iconst G 0 (decAt dd_BT_mark 9 rfl) (by decide) ?_
        refine v_zast G 14 i (decAt dd_BT_mark 10 rfl) (by decide) rfl rfl (by omega) rfl ?_
        refine v_iinc_1 G (nI (i + 1)) (decAt dd_BT_mark 11 rfl) ((nI_1 _)) (by decide) rfl ?_
        refine v_goto G 2 (decAt dd_BT_mark 12 rfl) (by decide) ?_
        refine ih (i + 1) _ (by omega) (fun j h1 h2 h3 => by rw [va_up_ne _ _ h1]; exact hfr j h1 h2 h3) (fun j hj => ?_)
        show va_up (A1 14) i 0 j = 0
        by_cases e : j = i
        · subst e; exact va_up_self _ _ _
        · rw [va_up_ne _ _ e]; exact hz j (by omega)
  refine v_iconst G 0 (decAt dd_BT_mark 0 rfl) (by decide) ?_
  refine v_istore_1 G (decAt dd_BT_mark 1 rfl) (by decide) rfl ?_
  exact J2 (2 * c.length) 0 A (by omega) (fun _ _ _ _ => rfl) (fun j hj => absurd hj (by omega))
