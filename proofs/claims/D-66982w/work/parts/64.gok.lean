/-! Generator, pure: how long its text is, how many labels and great constants it has -/
def wt (kf : Nat → Nat × Int32) : Nat → Nat
  | 0 => 0
  | d + 1 => wt kf d + (if (kf d).1 = 4 then 0 else 1)
theorem wt_ext {kf kf' : Nat → Nat × Int32} : ∀ d, (∀ k, k < d → (kf' k).1 = (kf k).1) → wt kf' d = wt kf d
  | 0, _ => rfl
  | d + 1, h => by rw [wt, wt, wt_ext d (fun k hk => h k (by omega)), h d (by omega)]
theorem wt_up {kf : Nat → Nat × Int32} {k : Nat} {x : Nat × Int32} (d : Nat) (h : d ≤ k) : wt (va_up kf k x) d = wt kf d := wt_ext d (fun j hj => by rw [va_up_ne _ _ (by omega)])
theorem wt_4 {kf : Nat → Nat × Int32} {k : Nat} : ∀ {d : Nat}, k < d → (kf k).1 ≠ 4 → wt (va_up kf k (4, 0)) d + 1 = wt kf d
  | 0, h, _ => by omega
  | d + 1, h, h4 => by
    by_cases e : k = d
    · subst e
      rw [wt, wt, wt_up k (Nat.le_refl _), va_up_self, if_pos rfl, if_neg h4]
    · have := wt_4 (kf := kf) (d := d) (by omega) h4
      rw [wt, wt, va_up_ne _ _ (fun z => e z.symm)]
      omega
theorem wt_z {kf : Nat → Nat × Int32} : ∀ d, (∀ k, k < d → (kf k).1 = 4) → wt kf d = 0
  | 0, _ => rfl
  | d + 1, h => by rw [wt, wt_z d (fun k hk => h k (by omega)), if_pos (h d (by omega))]
def nk (q : GS) (k : Nat) : Nat := if (q.kf k).1 = 4 then 0 else 1
theorem nk_le (q : GS) (k : Nat) : nk q k ≤ 1 := by unfold nk; split <;> omega
def bL (i : Nat) : Nat := if isL i = true then 1 else 0
def sLn (i : Nat) : Nat := (sbyt.getD i []).length
def cL (ls : List (Nat × Int32)) : Nat := (ls.map fun x => bL x.1).sum
def pqL (q : GS) : Nat := (txt q.ls).length
def pqG (q : GS) : Nat := q.gr.length
def pqK (q : GS) : Nat := cL q.ls
def pqW (q : GS) : Nat := wt q.kf q.d
theorem sl : sLn 0 = 1 ∧ sLn 1 = 3 ∧ sLn 2 = 3 ∧ sLn 5 = 3 ∧ sLn 6 = 2 ∧ sLn 7 = 2 ∧ sLn 9 = 1 ∧ sLn 11 = 1 ∧ sLn 12 = 2 ∧ sLn 13 = 2 ∧ sLn 14 = 0 ∧ sLn 15 = 2 := by decide
theorem kl : bL 0 = 0 ∧ bL 1 = 1 ∧ bL 2 = 0 ∧ bL 5 = 0 ∧ bL 6 = 0 ∧ bL 7 = 0 ∧ bL 9 = 0 ∧ bL 11 = 0 ∧ bL 12 = 1 ∧ bL 13 = 1 ∧ bL 14 = 0 ∧ bL 15 = 1 := by decide
theorem dec_2 : ∀ m, m < 100 → (dec (nI m)).length ≤ 2 := by decide +kernel
theorem dec_3 : ∀ m, m < 200 → (dec (nI m)).length ≤ 3 := by decide +kernel
theorem kf_line (i : Nat) (v : Int32) (q : GS) : (gline i v q).kf = q.kf := rfl
theorem pqW_dep (d : Nat) (q : GS) : pqW (gdep d q) = wt q.kf d := rfl
section GL
variable (q : GS)
theorem pqL_line (i : Nat) (v : Int32) : pqL (gline i v q) = pqL q + (sLn i + (dec v).length + 1) := by
  show (txt (q.ls ++ [(i, v)])).length = _
  rw [txt_push]
  simp only [List.length_append, List.length_cons, List.length_nil, pqL, sLn]
theorem pqK_line (i : Nat) (v : Int32) : pqK (gline i v q) = pqK q + bL i := by
  show cL (q.ls ++ [(i, v)]) = _
  simp only [cL, pqK, List.map_append, List.map_cons, List.map_nil, List.sum_append, List.sum_cons, List.sum_nil, Nat.add_zero]
theorem pqG_line (i : Nat) (v : Int32) : pqG (gline i v q) = pqG q := rfl
theorem pqW_line (i : Nat) (v : Int32) : pqW (gline i v q) = pqW q := rfl
theorem pqL_set (k : Nat) (x : Nat × Int32) : pqL (gset k x q) = pqL q := rfl
theorem pqG_set (k : Nat) (x : Nat × Int32) : pqG (gset k x q) = pqG q := rfl
theorem pqK_set (k : Nat) (x : Nat × Int32) : pqK (gset k x q) = pqK q := rfl
theorem pqL_dep (d : Nat) : pqL (gdep d q) = pqL q := rfl
theorem pqG_dep (d : Nat) : pqG (gdep d q) = pqG q := rfl
theorem pqK_dep (d : Nat) : pqK (gdep d q) = pqK q := rfl
theorem pqL_re (b : Bool) : pqL (gre b q) = pqL q := rfl
theorem pqG_re (b : Bool) : pqG (gre b q) = pqG q := rfl
theorem pqK_re (b : Bool) : pqK (gre b q) = pqK q := rfl
theorem pqW_re (b : Bool) : pqW (gre b q) = pqW q := rfl
theorem pqL_sa (b : Bool) : pqL (gsa b q) = pqL q := rfl
theorem pqG_sa (b : Bool) : pqG (gsa b q) = pqG q := rfl
theorem pqK_sa (b : Bool) : pqK (gsa b q) = pqK q := rfl
theorem pqW_sa (b : Bool) : pqW (gsa b q) = pqW q := rfl
theorem pqL_held (k : Nat) : pqL (gheld k q) = pqL q := rfl
theorem pqG_held (k : Nat) : pqG (gheld k q) = pqG q := rfl
theorem pqK_held (k : Nat) : pqK (gheld k q) = pqK q := rfl
theorem pqL_lab (k : Nat) : pqL (glab k q) = pqL q := rfl
theorem pqG_lab (k : Nat) : pqG (glab k q) = pqG q := rfl
theorem pqK_lab (k : Nat) : pqK (glab k q) = pqK q := rfl
theorem pqW_lab (k : Nat) : pqW (glab k q) = 0 := wt_z _ (fun _ _ => rfl)
theorem pqW_held {less e : Nat} (h : q.d - less = e + 1) : pqW (gheld less q) = wt q.kf e + 1 := by
  show wt (va_up q.kf (q.d - less - 1) (5, 0)) (q.d - less) = _
  rw [h, Nat.add_sub_cancel, wt, va_up_self, wt_up e (Nat.le_refl _), if_neg (by decide)]
end GL
/-- a great constant, or a small one -/
theorem ld_con (v : Int32) (q : GS) (hg : pqG q ≤ 90) : pqL (gcon v q) + 17 * pqG (gcon v q) ≤ pqL q + 17 * pqG q + 24 ∧ pqG (gcon v q) ≤ pqG q + 1 ∧ pqK (gcon v q) ≤ pqK q + 1 := by
  have hs := sl
  have hk := kl
  have hd := dec_len v
  unfold gcon
  split
  · rw [pqL_line, pqG_line, pqK_line]
    omega
  · have h2 := dec_3 (100 + gidx v q.gr) (by have := gidx_le v q.gr; unfold pqG at hg; omega)
    have h3 : pqG (gadd v q) ≤ pqG q + 1 := by
      show (if gidx v q.gr = q.gr.length then q.gr ++ [v] else q.gr).length ≤ q.gr.length + 1
      split <;> simp
    have h4 : pqL (gadd v q) = pqL q := rfl
    have h5 : pqK (gadd v q) = pqK q := rfl
    rw [pqL_line, pqG_line, pqK_line, h4, h5]
    omega
theorem ld (k : Nat) (q : GS) (hk : k < 100) (hg : pqG q ≤ 90) : pqL (gload k q) + 17 * pqG (gload k q) ≤ pqL q + 17 * pqG q + (6 + 18 * nk q k) ∧ pqG (gload k q) ≤ pqG q + nk q k ∧ pqK (gload k q) ≤ pqK q + nk q k := by
  have hs := sl
  have hb := kl
  unfold gload
  by_cases h0 : (q.kf k).1 = 0
  · have hn : nk q k = 1 := by unfold nk; rw [if_neg (by omega)]
    rw [if_pos h0, hn]
    have := ld_con (q.kf k).2 q hg
    omega
  · rw [if_neg h0]
    by_cases h1 : (q.kf k).1 = 1
    · have hn : nk q k = 1 := by unfold nk; rw [if_neg (by omega)]
      have hd := dec_len (q.kf k).2
      rw [if_pos h1, hn, pqL_line, pqG_line, pqK_line]
      omega
    · rw [if_neg h1]
      by_cases h4 : (q.kf k).1 = 4
      · have hn : nk q k = 0 := by unfold nk; rw [if_pos h4]
        have hd := dec_2 k hk
        rw [if_pos h4, hn, pqL_line, pqG_line, pqK_line]
        omega
      · rw [if_neg h4]
        omega
theorem nk_load (j k : Nat) (q : GS) : nk (gload j q) k = nk q k := by unfold nk; rw [gload_kf]
theorem pqW_load (j : Nat) (q : GS) : pqW (gload j q) = pqW q := by unfold pqW; rw [gload_kf, gload_d]
theorem pqW_con (v : Int32) (q : GS) : pqW (gcon v q) = pqW q := by unfold pqW; rw [gcon_kf, gcon_d]
theorem pqW_1 {q : GS} {e : Nat} (h : q.d = e + 1) : pqW q = wt q.kf e + nk q e := by unfold pqW nk; rw [h, wt]
/-- what a step adds -/
def PhB (q q' : GS) (a b c : Nat) : Prop := pqL q' + 17 * pqG q' + 29 * pqW q' ≤ pqL q + 17 * pqG q + 29 * pqW q + a ∧ pqG q' + pqW q' ≤ pqG q + pqW q + b ∧ pqK q' + pqW q' ≤ pqK q + pqW q + c
theorem PhB.rf (q : GS) : PhB q q 0 0 0 := ⟨Nat.le_refl _, Nat.le_refl _, Nat.le_refl _⟩
theorem PhB.trans {q q' q2 : GS} {a b c a' b' c' : Nat} (h1 : PhB q q' a b c) (h2 : PhB q' q2 a' b' c') : PhB q q2 (a + a') (b + b') (c + c') := by
  unfold PhB at *
  omega
theorem PhB.le {q q' : GS} {a b c a' b' c' : Nat} (h : PhB q q' a b c) (ha : a ≤ a') (hb : b ≤ b') (hc : c ≤ c') : PhB q q' a' b' c' := by
  unfold PhB at *
  omega
theorem ph_keep {k : Nat} {q : GS} (hk : k < q.d) (hd : q.d ≤ 60) (hg : pqG q ≤ 90) : PhB q (gkeep k q) 0 0 0 := by
  unfold gkeep
  by_cases h : (q.kf k).1 = 4
  · rw [if_pos h]; exact PhB.rf q
  · rw [if_neg h]
    obtain ⟨a1, a2, a3⟩ := ld k q (by omega) hg
    have hn : nk q k = 1 := by unfold nk; rw [if_neg h]
    have hs := sl
    have hb := kl
    have hd2 := dec_2 k (by omega)
    have w1 : pqW (gset k (4, 0) (gline 6 (nI k) (gload k q))) + 1 = pqW q := by
      show wt (va_up (gload k q).kf k (4, 0)) (gload k q).d + 1 = _
      rw [gload_kf, gload_d]
      exact wt_4 hk h
    unfold PhB
    rw [pqL_set, pqG_set, pqK_set, pqL_line, pqG_line, pqK_line]
    omega
theorem ph_bth {q : GS} (hd0 : 0 < q.d) (hd : q.d ≤ 60) (hg : pqG q ≤ 90) : PhB q (gbth q) 0 0 0 := by
  unfold gbth
  split
  · exact ph_keep (by omega) hd hg
  · exact PhB.rf q
theorem ph_top {q : GS} (hd : q.d ≤ 60) (hg : pqG q ≤ 90) : PhB q (gtop q) 0 0 0 := by
  unfold gtop
  split
  · next h => exact ph_bth h hd hg
  · exact PhB.rf q
theorem PhB.g {q q' : GS} {a b c m : Nat} (h : PhB q q' a b c) (hm : pqG q + pqW q + b ≤ m) : pqG q' + pqW q' ≤ m := by
  unfold PhB at h
  omega
theorem ph_keepN {q : GS} (hd : q.d ≤ 60) (hg : pqG q + pqW q ≤ 90) : ∀ k, k ≤ q.d → PhB q (gkeepN k q) 0 0 0
  | 0, _ => PhB.rf q
  | k + 1, hk => by
    have h1 := ph_keepN hd hg k (by omega)
    have h2 := h1.g (m := 90) hg
    exact (h1.trans (ph_keep (k := k) (q := gkeepN k q) (by rw [gkeepN_d]; omega) (by rw [gkeepN_d]; exact hd) (by omega))).le (by omega) (by omega) (by omega)
theorem ph_keepAll {q : GS} (hd : q.d ≤ 60) (hg : pqG q + pqW q ≤ 90) : PhB q (gkeepAll q) 0 0 0 := by
  have h1 := ph_top hd (by omega : pqG q ≤ 90)
  have h2 := h1.g (m := 90) hg
  exact (h1.trans (ph_keepN (q := gtop q) (by rw [gtop_d]; exact hd) h2 q.d (by rw [gtop_d]; omega))).le (by omega) (by omega) (by omega)
theorem ph_keepBelow {q : GS} (hd : q.d ≤ 60) (hg : pqG q + pqW q ≤ 90) : PhB q (gkeepBelow q) 0 0 0 := by
  have h1 : PhB q (if 1 < q.d then gbth q else q) 0 0 0 := by
    split
    · next h => exact ph_bth (by omega) hd (by omega)
    · exact PhB.rf q
  have hd1 : (if 1 < q.d then gbth q else q).d = q.d := by
    split
    · exact gbth_d q
    · rfl
  have h2 := h1.g (m := 90) hg
  exact (h1.trans (ph_keepN (q := if 1 < q.d then gbth q else q) (by rw [hd1]; exact hd) h2 (q.d - 1) (by rw [hd1]; omega))).le (by omega) (by omega) (by omega)
theorem ph_keep2 {k : Nat} {q : GS} (hk : k < q.d) (hd : q.d ≤ 60) (hg : pqG q + pqW q ≤ 90) : PhB q (gkeep2 k q) 0 0 0 := by
  unfold gkeep2
  split
  · exact PhB.rf q
  · have h1 := ph_bth (q := q) (by omega) hd (by omega)
    have h2 := h1.g (m := 90) hg
    exact (h1.trans (ph_keep (k := k) (q := gbth q) (by rw [gbth_d]; exact hk) (by rw [gbth_d]; exact hd) (by omega))).le (by omega) (by omega) (by omega)
theorem ph_keep2N {q : GS} (hd : q.d ≤ 60) (hg : pqG q + pqW q ≤ 90) : ∀ k, k ≤ q.d → PhB q (gkeep2N k q) 0 0 0
  | 0, _ => PhB.rf q
  | k + 1, hk => by
    have h1 := ph_keep2N hd hg k (by omega)
    have h2 := h1.g (m := 90) hg
    exact (h1.trans (ph_keep2 (k := k) (q := gkeep2N k q) (by rw [gkeep2N_d]; omega) (by rw [gkeep2N_d]; exact hd) h2)).le (by omega) (by omega) (by omega)
/-- both on top are loaded -/
theorem ld_both {q : GS} {e : Nat} (he : q.d = e + 2) (hd : q.d ≤ 60) (hg : pqG q + pqW q ≤ 90) : ∃ kf, (gboth q).kf = kf ∧ pqL (gboth q) + 17 * pqG (gboth q) + 29 * wt kf e ≤ pqL q + 17 * pqG q + 29 * pqW q + 12 ∧ pqG (gboth q) + wt kf e ≤ pqG q + pqW q ∧ pqK (gboth q) + wt kf e ≤ pqK q + pqW q := by
  have h1 := ph_bth (q := q) (by omega) hd (by omega)
  have h2 := h1.g (m := 90) hg
  have hdb : (gbth q).d = e + 1 + 1 := (gbth_d q).trans he
  have w1 := pqW_1 hdb
  rw [wt] at w1
  have w2 : (if ((gbth q).kf e).1 = 4 then 0 else 1) = nk (gbth q) e := rfl
  rw [w2] at w1
  have n1 := nk_le (gbth q) e
  have n2 := nk_le (gbth q) (e + 1)
  obtain ⟨a1, a2, a3⟩ := ld (q.d - 2) (gbth q) (by omega) (by omega)
  rw [show q.d - 2 = e by omega] at a1 a2 a3
  obtain ⟨b1, b2, b3⟩ := ld (q.d - 1) (gload e (gbth q)) (by omega) (by omega)
  rw [nk_load, show q.d - 1 = e + 1 by omega] at b1 b2 b3
  refine ⟨(gbth q).kf, ?_, ?_⟩
  · unfold gboth; rw [gload_kf, gload_kf]
  · unfold gboth
    rw [show q.d - 2 = e by omega, show q.d - 1 = e + 1 by omega]
    unfold PhB at h1
    omega
theorem ph_single {q : GS} {j : Nat} (hd0 : 0 < q.d) (hd : q.d ≤ 60) (hg : pqG q + pqW q ≤ 90) (hj : j < 100) : PhB q (gsingle (nI j) q) 50 1 1 := by
  obtain ⟨e, he⟩ : ∃ e, q.d = e + 1 := ⟨q.d - 1, by omega⟩
  obtain ⟨a1, a2, a3⟩ := ld (q.d - 1) q (by omega) (by omega)
  have w0 := pqW_1 he
  have n1 := nk_le q e
  have hs := sl
  have hb := kl
  have hd2 := dec_2 j hj
  rw [show q.d - 1 = e by omega] at a1 a2 a3
  unfold gsingle
  rw [show q.d - 1 = e by omega]
  have w1 : pqW (gheld 0 (gline 9 (nI j) (gload e q))) = wt q.kf e + 1 := by
    rw [pqW_held (e := e) _ (by show (gload e q).d - 0 = _; rw [gload_d]; omega)]
    show wt (gload e q).kf e + 1 = _
    rw [gload_kf]
  unfold PhB
  rw [w1, pqL_held, pqG_held, pqK_held, pqL_line, pqG_line, pqK_line]
  omega
theorem ph_pair {q : GS} {j : Nat} (hd0 : 2 ≤ q.d) (hd : q.d ≤ 60) (hg : pqG q + pqW q ≤ 90) (hj : j < 100) : PhB q (gpair (nI j) q) 50 1 1 := by
  obtain ⟨e, he⟩ : ∃ e, q.d = e + 2 := ⟨q.d - 2, by omega⟩
  obtain ⟨kf, hkf, a1, a2, a3⟩ := ld_both he hd hg
  have hs := sl
  have hb := kl
  have hd2 := dec_2 j hj
  unfold gpair
  have w1 : pqW (gheld 1 (gline 9 (nI j) (gboth q))) = wt kf e + 1 := by
    rw [pqW_held (e := e) _ (by show (gboth q).d - 1 = _; rw [gboth_d]; omega)]
    show wt (gboth q).kf e + 1 = _
    rw [hkf]
  unfold PhB
  rw [w1, pqL_held, pqG_held, pqK_held, pqL_line, pqG_line, pqK_line]
  omega
theorem ph_chain {q : GS} {j : Nat} {k : Int32} (hk : 40 + k = nI j) (hd0 : 2 ≤ q.d) (hd : q.d ≤ 60) (hg : pqG q + pqW q ≤ 90) (hj : j < 100) : PhB q (gchain k q) 50 1 1 := by
  obtain ⟨e, he⟩ : ∃ e, q.d = e + 2 := ⟨q.d - 2, by omega⟩
  obtain ⟨kf, hkf, a1, a2, a3⟩ := ld_both he hd hg
  have hs := sl
  have hb := kl
  have hd2 := dec_2 j hj
  have hd3 := dec_2 (q.d - 2) (by omega)
  unfold gchain
  have w1 : pqW (gset (q.d - 1) (5, 0) (gset (q.d - 2) (4, 0) (gline 9 (40 + k) (gline 6 (nI (q.d - 2)) (gboth q))))) = wt kf e + 1 := by
    show wt (va_up (va_up (gboth q).kf (q.d - 2) (4, 0)) (q.d - 1) (5, 0)) (gboth q).d = _
    rw [gboth_d, hkf, he, show e + 2 - 1 = e + 1 by omega, show e + 2 - 2 = e by omega]
    show wt _ (e + 1) + (if ((va_up (va_up kf e (4, 0)) (e + 1) (5, 0)) (e + 1)).1 = 4 then 0 else 1) = _
    rw [va_up_self, if_neg (by decide), wt_up (e + 1) (Nat.le_refl _), wt, va_up_self, if_pos rfl, wt_up e (Nat.le_refl _)]
  unfold PhB
  rw [w1, pqL_set, pqG_set, pqK_set, pqL_set, pqG_set, pqK_set, pqL_line, pqG_line, pqK_line, pqL_line, pqG_line, pqK_line, hk]
  omega
theorem ph_stores {q : GS} {a : Int32} (hd0 : 0 < q.d) (hd : q.d ≤ 60) (hg : pqG q + pqW q ≤ 90) : PhB q (gstores a q) 50 1 1 := by
  obtain ⟨e, he⟩ : ∃ e, q.d = e + 1 := ⟨q.d - 1, by omega⟩
  have h1 := ph_keepBelow hd hg
  have h2 := h1.g (m := 90) hg
  have he' : (gkeepBelow q).d = e + 1 := (gkeepBelow_d q).trans he
  have w0 := pqW_1 he'
  have n1 := nk_le (gkeepBelow q) e
  obtain ⟨a1, a2, a3⟩ := ld (q.d - 1) (gkeepBelow q) (by omega) (by omega)
  have hs := sl
  have hb := kl
  have hd2 := dec_len a
  rw [show q.d - 1 = e by omega] at a1 a2 a3
  unfold gstores
  rw [show q.d - 1 = e by omega]
  have w1 : pqW (gdep e (gline 7 a (gload e (gkeepBelow q)))) = wt (gkeepBelow q).kf e := by
    show wt (gload e (gkeepBelow q)).kf e = _
    rw [gload_kf]
  unfold PhB at *
  rw [w1, pqL_dep, pqG_dep, pqK_dep, pqL_line, pqG_line, pqK_line]
  omega
theorem ph_indirect {q : GS} (hd0 : 2 ≤ q.d) (hd : q.d ≤ 60) (hg : pqG q + pqW q ≤ 90) : PhB q (gindirect q) 50 1 1 := by
  obtain ⟨e, he⟩ : ∃ e, q.d = e + 2 := ⟨q.d - 2, by omega⟩
  have h1 := ph_keep2N hd hg (q.d - 2) (by omega)
  have h2 := h1.g (m := 90) hg
  obtain ⟨kf, hkf, a1, a2, a3⟩ := ld_both (q := gkeep2N (q.d - 2) q) (e := e) ((gkeep2N_d _ q).trans he) (by rw [gkeep2N_d]; exact hd) h2
  have hs := sl
  have hb := kl
  have hd2 := dec_2 5 (by omega)
  unfold gindirect
  have w1 : pqW (gdep (q.d - 2) (gline 9 5 (gboth (gkeep2N (q.d - 2) q)))) = wt kf e := by
    show wt (gboth (gkeep2N (q.d - 2) q)).kf (q.d - 2) = _
    rw [hkf, he]
    rfl
  have e5 : (dec 5).length = (dec (nI 5)).length := rfl
  unfold PhB at *
  rw [w1, pqL_dep, pqG_dep, pqK_dep, pqL_line, pqG_line, pqK_line]
  omega
theorem ph_bytes {q : GS} (hd0 : 3 ≤ q.d) (hd : q.d ≤ 60) (hg : pqG q + pqW q ≤ 90) : PhB q (gbytes q) 50 1 1 := by
  obtain ⟨e, he⟩ : ∃ e, q.d = e + 3 := ⟨q.d - 3, by omega⟩
  have h1 := ph_keep2N hd hg (q.d - 3) (by omega)
  have h2 := h1.g (m := 90) hg
  obtain ⟨kf, hkf, a1, a2, a3⟩ := ld_both (q := gkeep2N (q.d - 3) q) (e := e + 1) ((gkeep2N_d _ q).trans he) (by rw [gkeep2N_d]; exact hd) h2
  have hs := sl
  have hb := kl
  have hd7 := dec_2 7 (by omega)
  have hd8 := dec_2 8 (by omega)
  have e7 : (dec 7).length = (dec (nI 7)).length := rfl
  have e8 : (dec 8).length = (dec (nI 8)).length := rfl
  have hd1 := dec_2 (q.d - 1) (by omega)
  obtain ⟨b1, b2, b3⟩ := ld (q.d - 3) (gline 6 (nI (q.d - 1)) (gline 9 7 (gboth (gkeep2N (q.d - 3) q)))) (by omega) (by rw [pqG_line, pqG_line]; omega)
  have hn : nk (gline 6 (nI (q.d - 1)) (gline 9 7 (gboth (gkeep2N (q.d - 3) q)))) (q.d - 3) = (if (kf e).1 = 4 then 0 else 1) := by
    unfold nk
    rw [kf_line, kf_line, hkf, he]
    rfl
  have hle : (if (kf e).1 = 4 then 0 else 1) ≤ 1 := by split <;> omega
  have w0 : wt kf (e + 1) = wt kf e + (if (kf e).1 = 4 then 0 else 1) := rfl
  rw [hn] at b1 b2 b3
  unfold gbytes
  have w1 : pqW (gdep (q.d - 3) (gline 9 8 (gline 5 (nI (q.d - 1)) (gload (q.d - 3) (gline 6 (nI (q.d - 1)) (gline 9 7 (gboth (gkeep2N (q.d - 3) q)))))))) = wt kf e := by
    rw [pqW_dep, kf_line, kf_line, gload_kf, kf_line, kf_line, hkf, he]
    rfl
  unfold PhB at *
  rw [w1, pqL_dep, pqG_dep, pqK_dep, pqL_line, pqG_line, pqK_line, pqL_line, pqG_line, pqK_line]
  rw [pqL_line, pqL_line, pqG_line, pqG_line] at b1
  rw [pqG_line, pqG_line] at b2
  rw [pqK_line, pqK_line] at b3
  generalize (if (kf e).1 = 4 then 0 else 1) = z at *
  omega
theorem ph_push {q : GS} {x : Nat × Int32} (hd : q.d ≤ 60) (hg : pqG q + pqW q ≤ 90) : PhB q (gpush x q) 50 1 1 := by
  have h1 := ph_top hd (by omega : pqG q ≤ 90)
  unfold gpush
  have w1 : pqW (gput x (gtop q)) ≤ pqW (gtop q) + 1 := by
    show wt (va_up (gtop q).kf (gtop q).d x) ((gtop q).d + 1) ≤ _
    rw [wt, wt_up _ (Nat.le_refl _)]
    unfold pqW
    split <;> omega
  have e1 : pqL (gput x (gtop q)) = pqL (gtop q) := rfl
  have e2 : pqG (gput x (gtop q)) = pqG (gtop q) := rfl
  have e3 : pqK (gput x (gtop q)) = pqK (gtop q) := rfl
  unfold PhB at *
  rw [e1, e2, e3]
  omega
theorem wt_mono (kf : Nat → Nat × Int32) (d : Nat) : wt kf (d - 1) ≤ wt kf d := by
  cases d with
  | zero => exact Nat.le_refl _
  | succ d => rw [Nat.add_sub_cancel, wt]; omega
/-- what one instruction adds -/
theorem ph_one {q : GS} {N dl : Nat} {a fo : Int32} (hN : N ≤ 20) (ha : argOK N a = true) (ht : ¬ (10 ≤ N ∧ N ≤ 13) → tI N ≤ (q.d : Int)) (h1 : N = 11 ∨ N = 12 → q.sa = false → 1 ≤ q.d) (hd : q.d ≤ 60) (hg : pqG q + pqW q ≤ 90) : PhB q (gone N a fo dl q) 50 1 (if N = 18 then 2 else if N = 12 ∧ q.sa = true then 0 else 1) := by
  have hs := sl
  have hb := kl
  have hda := dec_len a
  have hdf := dec_len fo
  have hk := ph_keepAll hd hg
  have hkg := hk.g (m := 90) hg
  have hgo : (N = 10 ∨ N = 11 ∨ N = 12 ∨ N = 13) → PhB q (ggoes N a dl q) 50 1 (if N = 18 then 2 else if N = 12 ∧ q.sa = true then 0 else 1) := by
    intro hN4
    rw [if_neg (by omega)]
    unfold ggoes
    by_cases h10 : N = 10
    · rw [if_pos h10, if_neg (show ¬ (N = 12 ∧ q.sa = true) by omega)]
      unfold PhB at *
      rw [pqL_re, pqG_re, pqK_re, pqW_re, pqL_line, pqG_line, pqK_line, pqW_line]
      omega
    · rw [if_neg h10]
      by_cases h13 : N = 13
      · rw [if_pos h13, if_neg (show ¬ (N = 12 ∧ q.sa = true) by omega)]
        have hq : PhB q (if q.re = true then gkeepAll q else q) 0 0 0 := by
          split
          · exact hk
          · exact PhB.rf q
        generalize (if q.re = true then gkeepAll q else q) = q1 at hq
        unfold PhB at *
        rw [pqL_line, pqG_line, pqK_line, pqW_line, pqL_re, pqG_re, pqK_re, pqW_re, pqL_lab, pqG_lab, pqK_lab, pqW_lab]
        omega
      · rw [if_neg h13]
        by_cases hsa : q.sa = true
        · rw [if_pos hsa]
          unfold PhB
          rw [pqL_sa, pqG_sa, pqK_sa, pqW_sa]
          split <;> omega
        · rw [if_neg hsa, if_neg (show ¬ (N = 12 ∧ q.sa = true) from fun z => hsa z.2)]
          have hd1 := h1 (by omega) (by simpa using hsa)
          obtain ⟨e, he⟩ : ∃ e, q.d = e + 1 := ⟨q.d - 1, by omega⟩
          have he' : (gkeepAll q).d = e + 1 := (gkeepAll_d q).trans he
          have w0 := pqW_1 he'
          have n1 := nk_le (gkeepAll q) e
          obtain ⟨a1, a2, a3⟩ := ld (q.d - 1) (gkeepAll q) (by omega) (by omega)
          rw [show q.d - 1 = e by omega] at a1 a2 a3 ⊢
          have w1 : pqW (gdep e (gload e (gkeepAll q))) = wt (gkeepAll q).kf e := by
            show wt (gload e (gkeepAll q)).kf e = _
            rw [gload_kf]
          have hx : sLn (if N = 12 then 12 else 15) = 2 ∧ bL (if N = 12 then 12 else 15) = 1 := by split <;> exact ⟨by omega, by omega⟩
          unfold PhB at *
          rw [pqL_line, pqG_line, pqK_line, pqW_line, pqL_dep, pqG_dep, pqK_dep, w1]
          omega
  have hN' : N = 0 ∨ N = 1 ∨ N = 2 ∨ N = 3 ∨ N = 4 ∨ N = 5 ∨ N = 6 ∨ N = 7 ∨ N = 8 ∨ N = 9 ∨ (N = 10 ∨ N = 11 ∨ N = 12 ∨ N = 13) ∨ N = 14 ∨ N = 15 ∨ N = 16 ∨ N = 17 ∨ N = 18 ∨ N = 19 ∨ N = 20 := by omega
  have t1 : tI 2 = 1 ∧ tI 3 = 1 ∧ tI 4 = 2 ∧ tI 5 = 1 ∧ tI 6 = 1 ∧ tI 7 = 2 ∧ tI 8 = 2 ∧ tI 9 = 2 ∧ tI 14 = 1 ∧ tI 16 = 1 ∧ tI 18 = 1 ∧ tI 19 = 2 ∧ tI 20 = 3 := by decide
  have hopr : ∀ b o : Nat, inR a b = true → b + o ≤ 100 → ∃ j, j < 100 ∧ nI o + a = nI j := fun b o h hb => by
    obtain ⟨j, h1, h2, -⟩ := inR_nI h
    exact ⟨o + j, by omega, by rw [h2, nI_add]⟩
  rcases hN' with rfl | rfl | rfl | rfl | rfl | rfl | rfl | rfl | rfl | rfl | h | rfl | rfl | rfl | rfl | rfl | rfl | rfl
  · exact ph_push hd hg
  · exact ph_push hd hg
  · have := ht (by omega); exact ph_stores (by omega) hd hg
  · have := ht (by omega); exact ph_single (j := 1) (by omega) hd hg (by omega)
  · have := ht (by omega); exact ph_indirect (by omega) hd hg
  · have := ht (by omega); exact ph_single (j := 2) (by omega) hd hg (by omega)
  · have := ht (by omega); exact ph_single (j := 3) (by omega) hd hg (by omega)
  · have := ht (by omega)
    obtain ⟨j, hj, e⟩ := hopr 11 20 ha (by omega)
    show PhB q (gpair (nI 20 + a) q) 50 1 1
    rw [e]
    exact ph_pair (by omega) hd hg hj
  · have := ht (by omega)
    obtain ⟨j, hj, e⟩ := hopr 6 40 ha (by omega)
    show PhB q (gpair (nI 40 + a) q) 50 1 1
    rw [e]
    exact ph_pair (by omega) hd hg hj
  · have := ht (by omega)
    obtain ⟨j, hj, e⟩ := hopr 6 40 ha (by omega)
    exact ph_chain e (by omega) hd hg hj
  · have e : gone N a fo dl q = ggoes N a dl q := by rcases h with rfl | rfl | rfl | rfl <;> rfl
    rw [e]
    exact hgo h
  · have w1 : pqW (gdep (q.d - 1) q) ≤ pqW q := wt_mono _ _
    show PhB q (gdep (q.d - 1) q) 50 1 1
    unfold PhB
    rw [pqL_dep, pqG_dep, pqK_dep]
    omega
  · have h9 := dec_2 9 (by omega)
    have e9 : (dec 9).length = (dec (nI 9)).length := rfl
    show PhB q (gline 9 9 q) 50 1 1
    unfold PhB
    rw [pqL_line, pqG_line, pqK_line, pqW_line]
    omega
  · have := ht (by omega)
    obtain ⟨e, he⟩ : ∃ e, q.d = e + 1 := ⟨q.d - 1, by omega⟩
    have w0 := pqW_1 he
    have n1 := nk_le q e
    obtain ⟨a1, a2, a3⟩ := ld (q.d - 1) q (by omega) (by omega)
    have h4 := dec_2 4 (by omega)
    have e4 : (dec 4).length = (dec (nI 4)).length := rfl
    show PhB q (gre false (gdep (q.d - 1) (gline 9 4 (gload (q.d - 1) q)))) 50 1 1
    rw [show q.d - 1 = e by omega] at a1 a2 a3 ⊢
    have w1 : pqW (gdep e (gline 9 4 (gload e q))) = wt q.kf e := by
      show wt (gload e q).kf e = _
      rw [gload_kf]
    unfold PhB
    rw [pqL_re, pqG_re, pqK_re, pqW_re, w1, pqL_dep, pqG_dep, pqK_dep, pqL_line, pqG_line, pqK_line]
    omega
  · have h9 := dec_2 10 (by omega)
    have e9 : (dec 10).length = (dec (nI 10)).length := rfl
    show PhB q (gre false (gline 9 10 q)) 50 1 1
    unfold PhB
    rw [pqL_re, pqG_re, pqK_re, pqW_re, pqL_line, pqG_line, pqK_line, pqW_line]
    omega
  · have := ht (by omega)
    obtain ⟨e, he⟩ : ∃ e, q.d = e + 1 := ⟨q.d - 1, by omega⟩
    have he' : (gkeepAll q).d = e + 1 := (gkeepAll_d q).trans he
    have hk4 : nk (gkeepAll q) e = 0 := by
      unfold nk
      have : ((gkeepAll q).kf e).1 = 4 := by
        unfold gkeepAll
        rw [he, gkeepN, gkeep_kf, if_pos rfl]
        split
        · next z => exact z
        · rfl
      rw [if_pos this]
    obtain ⟨a1, a2, a3⟩ := ld (q.d - 1) (gkeepAll q) (by omega) (by omega)
    rw [show q.d - 1 = e by omega, hk4] at a1 a2 a3
    obtain ⟨b1, b2, b3⟩ := ld_con a (gload e (gkeepAll q)) (by omega)
    have h40 := dec_2 40 (by omega)
    have e40 : (dec 40).length = (dec (nI 40)).length := rfl
    show PhB q (gsa true (gline 12 fo (gline 9 40 (gcon a (gload (q.d - 1) (gkeepAll q)))))) 50 1 2
    rw [show q.d - 1 = e by omega]
    unfold PhB at *
    rw [pqL_sa, pqG_sa, pqK_sa, pqW_sa, pqL_line, pqG_line, pqK_line, pqW_line, pqL_line, pqG_line, pqK_line, pqW_line, pqW_con, pqW_load]
    omega
  · have := ht (by omega); exact ph_pair (j := 6) (by omega) hd hg (by omega)
  · have := ht (by omega); exact ph_bytes (by omega) hd hg
