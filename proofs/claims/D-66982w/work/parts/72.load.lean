/-! Loader: load -/
def ug (N : Nat) : Nat := if N < 128 then 0 else if N < 256 then 1 else 2
theorem ug_le (N : Nat) : ug N ≤ 2 := by unfold ug; split <;> (try split) <;> omega
theorem ug_1 {N : Nat} (h : N < 256) : ug N ≤ 1 := by unfold ug; split <;> (try split) <;> omega
theorem ug_s {N j : Nat} (h : 64 ≤ N) (hj : N ≤ j) (hx : j ≤ 163) : ug N + 1 ≤ ug (2 * j) := by
  unfold ug
  repeat' split
  all_goals omega
def LdI (pre : Lns) (g A : Nat → Nat → Int32) (n : Nat → Nat) : Prop := g 5 5 = nI (txt pre).length ∧ g 5 1 = nI (nl pre).length ∧ g 5 4 = nI (cL pre) ∧ WdR (A 26) pre ∧ WtR (A 28) pre ∧ LbR (A 27) (n 27) pre ∧ 64 ≤ n 27 ∧ n 27 ≤ 326
def LdF (g A : Nat → Nat → Int32) (n : Nat → Nat) (g1 A1 : Nat → Nat → Int32) (n1 : Nat → Nat) : Prop := (∀ k f, ¬ (k = 5 ∧ (f = 1 ∨ f = 4 ∨ f = 5)) → g1 k f = g k f) ∧ (∀ i, i ≠ 26 → i ≠ 27 → i ≠ 28 → A1 i = A i) ∧ ∀ i, i ≠ 27 → n1 i = n i
theorem txt_app (p s : Lns) : txt (p ++ s) = txt p ++ txt s := by unfold txt; exact List.flatMap_append
theorem txt_c (x : Nat × Int32) (s : Lns) : txt (x :: s) = lin x ++ txt s := by unfold txt; exact List.flatMap_cons
theorem lin_len (i : Nat) (v : Int32) : (lin (i, v)).length = sLn i + (dec v).length + 1 := by unfold lin sLn; simp only [List.length_append, List.length_cons, List.length_nil]
theorem txt_1 (i : Nat) (v : Int32) (p : Lns) : (txt (p ++ [(i, v)])).length = (txt p).length + (sLn i + (dec v).length + 1) := by
  rw [txt_app, List.length_append, txt_c, List.length_append, lin_len]
  rfl
theorem nl_1 {i : Nat} (v : Int32) (p : Lns) (h : i ≠ 14) : (nl (p ++ [(i, v)])).length = (nl p).length + 1 := by rw [nl_app, nl_y h, List.length_append]; rfl
theorem dec_dg : ∀ j, j < 164 → ¬ (dec (nI j)).getD 0 0 < 48 ∧ ¬ (57 : Int32) < (dec (nI j)).getD 0 0 := by decide +kernel
theorem dec_ne (v : Int32) : 0 < (dec v).length := by unfold dec; rw [List.length_append, dgF_len]; omega
theorem LdI.insL {pre : Lns} {g A g2 A2 : Nat → Nat → Int32} {n : Nat → Nat} {i : Nat} {v : Int32} (h : LdI pre g A n) (hi : isL i = true) (h1 : g2 5 5 = nI ((txt pre).length + (sLn i + (dec v).length + 1))) (h2 : g2 5 1 = nI ((nl pre).length + 1)) (h3 : g2 5 4 = nI (cL pre + 1)) (h4 : A2 26 = va_up (A 26) (nl pre).length (enc i v)) (h5 : A2 28 = va_up (A 28) (cL pre) (nI (nl pre).length)) (h6 : A2 27 = A 27) : LdI (pre ++ [(i, v)]) g2 A2 n := by
  obtain ⟨a1, a2, a3, a4, a5, a6, a7⟩ := h
  have h14 : i ≠ 14 := fun z => by rw [z] at hi; cases hi
  have h11 : i ≠ 11 := fun z => by rw [z] at hi; cases hi
  have hb : bL i = 1 := by unfold bL; rw [if_pos hi]
  exact ⟨by rw [h1, txt_1], by rw [h2, nl_1 v pre h14], by rw [h3, cL_app, cL_1, hb], by rw [h4]; exact a4.push h14 (by unfold rawW; rw [if_neg h11]), by rw [h5]; exact a5.push hi, by rw [h6]; exact a6.skip h14, a7⟩
theorem LdI.ins {pre : Lns} {g A g2 A2 : Nat → Nat → Int32} {n : Nat → Nat} {i : Nat} {v w : Int32} (h : LdI pre g A n) (hi : isL i = false) (h14 : i ≠ 14) (h1 : g2 5 5 = nI ((txt pre).length + (sLn i + (dec v).length + 1))) (h2 : g2 5 1 = nI ((nl pre).length + 1)) (h3 : g2 5 4 = g 5 4) (h4 : A2 26 = va_up (A 26) (nl pre).length w) (hw : w = rawW (i, v)) (h5 : A2 28 = A 28) (h6 : A2 27 = A 27) : LdI (pre ++ [(i, v)]) g2 A2 n := by
  obtain ⟨a1, a2, a3, a4, a5, a6, a7⟩ := h
  have hb : bL i = 0 := by unfold bL; rw [if_neg (by rw [hi]; decide)]
  exact ⟨by rw [h1, txt_1], by rw [h2, nl_1 v pre h14], by rw [h3, a3, cL_app, cL_1, hb]; rfl, by rw [h4]; exact a4.push h14 hw, by rw [h5]; exact a5.skip hi, by rw [h6]; exact a6.skip h14, a7⟩
theorem LdI.lab {pre : Lns} {g A g2 A2 : Nat → Nat → Int32} {n n2 : Nat → Nat} {j : Nat} {f' : Nat → Int32} (h : LdI pre g A n) (hj : j ≤ 163) (h1 : g2 5 5 = nI ((txt pre).length + ((dec (nI j)).length + 1))) (h2 : g2 5 1 = g 5 1) (h3 : g2 5 4 = g 5 4) (h4 : A2 26 = A 26) (h5 : A2 28 = A 28) (h6 : A2 27 = va_up f' j (nI (65536 + (nl pre).length))) (hf : ∀ x, x < n 27 → f' x = A 27 x) (hN : n 27 ≤ n2 27) (hlt : j < n2 27) (hN2 : n2 27 ≤ 326) : LdI (pre ++ [(14, nI j)]) g2 A2 n2 := by
  obtain ⟨a1, a2, a3, a4, a5, a6, a7, a8⟩ := h
  have hs : sLn 14 = 0 := rfl
  have hb : bL 14 = 0 := rfl
  refine ⟨by rw [h1, txt_1, hs]; congr 1; omega, ?_, by rw [h3, a3, cL_app, cL_1, hb]; rfl, by rw [h4]; exact a4.lab, by rw [h5]; exact a5.skip rfl, by rw [h6]; exact a6.push hj hN hlt hf, by omega, hN2⟩
  rw [h2, a2, nl_app, nl_n]
  simp [nl]
theorem txt_at {f : Nat → Int32} {pre rest ls : Lns} {x : Nat × Int32} (h : TxI f (txt ls)) (e : ls = pre ++ x :: rest) : TxA f (txt pre).length (lin x) := by
  have h0 : TxA f 0 (txt ls) := fun i v hi => by rw [Nat.zero_add]; exact h i v hi
  rw [e, txt_app, txt_c] at h0
  have := h0.app.2
  rw [Nat.zero_add] at this
  exact this.app.1
theorem txt_le {pre rest ls : Lns} {x : Nat × Int32} (e : ls = pre ++ x :: rest) : (txt pre).length + (lin x).length ≤ (txt ls).length := by
  rw [e, txt_app, txt_c, List.length_append, List.length_append]
  omega
theorem nl_lt {pre rest ls : Lns} {x : Nat × Int32} (e : ls = pre ++ x :: rest) : (nl pre).length < ls.length := by
  rw [e, List.length_append, List.length_cons]
  have := nl_le pre
  omega
theorem cL_le {pre rest ls : Lns} {x : Nat × Int32} (e : ls = pre ++ x :: rest) : cL pre + bL x.1 ≤ cL ls := by
  rw [e, cL_app, show (x :: rest) = [x] ++ rest from rfl, cL_app, show [x] = [(x.1, x.2)] from rfl, cL_1]
  omega
set_option maxHeartbeats 4000000 in
theorem c_LD_load (l : Launch) {E : Bs} (hE : Hb E) {ρ : Nat → Nat} {g A : Nat → Nat → Int32} {n : Nat → Nat} {tx : Value} {ls : Lns} (hok : LnOK ls) (hcl : cL ls ≤ 64) (hlt : (txt ls).length ≤ 3200) (hTx : TxI (A 25) (txt ls)) (hm0 : g 5 1 = nI 0) (h41 : g 4 1 = nI (txt ls).length) (h25 : n 25 = 4096) (h26 : n 26 = 4096) (h27 : 64 ≤ n 27) (h27' : n 27 ≤ 326) (h28 : n 28 = 64) : CW l E DC AC y_LD_load b_LD_load 5 (some .int) ({ frames := 5, cells := 2, slots := 652, locals := 115 } : Room) [.ref (E.o 5), .ref (E.o 4)] ρ g A n tx (fun r ρ' g' A' n' tx' => r = some (.int 65536) ∧ WdF (A' 26) ls ∧ LdF g A n g' A' n' ∧ 64 ≤ n' 27 ∧ n' 27 ≤ 326 ∧ tx' = (.ref (E.o 4))) := by
  refine CW.start [some (.ref (E.o 5)), some (.ref (E.o 4)), none, none, none] hE (by decide) (Nat.le_of_ble_eq_true rfl) rfl ?_
  intro p e s m args below meth c G
  have hln := ls_len ls
  have hnl := nl_le ls
  have J135 : ∀ (d k : Nat) (ρ1 : Nat → Nat) (g1 A1 : Nat → Nat → Int32) (n1 : Nat → Nat) (x4 : Option Value), k + d = cL ls → WdP (A1 26) ls k → WtR (A1 28) ls → LbR (A1 27) (n1 27) ls → g1 5 4 = nI (cL ls) → LdF g A n g1 A1 n1 → 64 ≤ n1 27 → n1 27 ≤ 326 → V p l e ({ frames := 5, cells := 2, slots := 652, locals := 115 } : Room) s m args below meth c 5 (Sy E DC AC s.heap ρ1 g1 A1 n1 (.ref (E.o 4))) (ug (n1 27)) (326 * ug (n1 27)) (MQ below (QW E DC AC (fun r ρ' g' A' n' tx' => r = some (.int 65536) ∧ WdF (A' 26) ls ∧ LdF g A n g' A' n' ∧ 64 ≤ n' 27 ∧ n' 27 ≤ 326 ∧ tx' = (.ref (E.o 4)))) args s 2 652 E.F) 135 [some (.ref (E.o 5)), some (.ref (E.o 4)), some (.int 65536), some (.int (nI k)), x4] [] := by
    intro d
    induction d with
    | zero =>
      intro k ρ1 g1 A1 n1 x4 hk hW hT hB h54 hF h64 h326
      refine v_iload_n G (decAt dd_LD_load 71 rfl) rfl ?_
      refine v_aload_n G (decAt dd_LD_load 72 rfl) rfl ?_
      refine v_geti G (decAt dd_LD_load 73 rfl) f_LD_44 ?_
      refine v_ri (y := (nI (cL ls))) h54 ?_
      refine v_icmp_ge G 194 (decAt dd_LD_load 74 rfl) (by decide) (fun c140 => ?_) (fun c140 => ?_)
      · skip
        refine v_iload_n G (decAt dd_LD_load 106 rfl) rfl ?_
        refine v_room 2 652 (ug_le _) (by have := ug_le (n1 27); omega) ?_
        exact v_iret G (decAt dd_LD_load 107 rfl) rfl ⟨rfl, hW.fin (by omega), hF, h64, h326, rfl⟩
      · skip
        exact absurd (nI_le (by omega) (by omega)) c140
    | succ d ih =>
      intro k ρ1 g1 A1 n1 x4 hk hW hT hB h54 hF h64 h326
      obtain ⟨p0, hp⟩ : ∃ p, (wpos ls 0)[k]? = some p := ⟨_, List.getElem?_eq_getElem (by rw [wpos_len]; omega)⟩
      obtain ⟨-, ⟨i0, v0⟩, hx, hL⟩ := (wpos_in ls 0 p0).mp (List.mem_of_getElem? hp)
      rw [Nat.sub_zero] at hx
      have hpl := (List.getElem?_eq_some_iff.mp hx).1
      have hmem : (i0, v0) ∈ ls := (List.mem_filter.mp (List.mem_of_getElem? hx)).1
      obtain ⟨-, o1, o2⟩ := hok _ hmem
      obtain ⟨j0, hj0, rfl⟩ : ∃ j, j ≤ 163 ∧ v0 = nI j := o1 (Or.inr hL)
      obtain ⟨q0, hq0, hla⟩ : ∃ p, p < 4096 ∧ la ls (nI j0) = some p := o2 hL
      obtain ⟨b1, b2⟩ := hB j0 q0 hj0 hla
      obtain ⟨f1, f2⟩ := fin_lab (i := i0) hL hj0 hla hq0
      have hwk := hT k p0 hp
      have hwp : A1 26 p0 = rawW (i0, nI j0) := by
        rw [hW p0 _ hx, if_pos]
        rw [List.drop_eq_getElem_cons (by rw [wpos_len]; omega), (List.getElem?_eq_some_iff.mp hp).2]
        exact List.mem_cons_self
      have n26 : n1 26 = 4096 := (hF.2.2 26 (by decide)).trans h26
      have n28 : n1 28 = 64 := (hF.2.2 28 (by decide)).trans h28
      refine v_iload_n G (decAt dd_LD_load 71 rfl) rfl ?_
      refine v_aload_n G (decAt dd_LD_load 72 rfl) rfl ?_
      refine v_geti G (decAt dd_LD_load 73 rfl) f_LD_44 ?_
      refine v_ri (y := (nI (cL ls))) h54 ?_
      refine v_icmp_ge G 194 (decAt dd_LD_load 74 rfl) (by decide) (fun c140 => ?_) (fun c140 => ?_)
      · skip
        exact absurd c140 (nI_ge (by omega) (by omega))
      · skip
        refine v_aload_n G (decAt dd_LD_load 75 rfl) rfl ?_
        refine v_geta G (decAt dd_LD_load 76 rfl) f_LD_9 ?_
        refine v_aload_n G (decAt dd_LD_load 77 rfl) rfl ?_
        refine v_geta G (decAt dd_LD_load 78 rfl) f_LD_18 ?_
        refine v_iload_n G (decAt dd_LD_load 79 rfl) rfl ?_
        refine v_iald G 28 k (decAt dd_LD_load 80 rfl) (by decide) rfl rfl (by omega) ?_
        refine v_ri (y := (nI p0)) hwk ?_
        refine v_aload_n G (decAt dd_LD_load 81 rfl) rfl ?_
        refine v_geta G (decAt dd_LD_load 82 rfl) f_LD_9 ?_
        refine v_aload_n G (decAt dd_LD_load 83 rfl) rfl ?_
        refine v_geta G (decAt dd_LD_load 84 rfl) f_LD_18 ?_
        refine v_iload_n G (decAt dd_LD_load 85 rfl) rfl ?_
        refine v_iald G 28 k (decAt dd_LD_load 86 rfl) (by decide) rfl rfl (by omega) ?_
        refine v_ri (y := (nI p0)) hwk ?_
        refine v_iald G 26 p0 (decAt dd_LD_load 87 rfl) (by decide) rfl rfl (by omega) ?_
        refine v_ri (y := (rawW (i0, nI j0))) hwp ?_
        refine v_ldc G (decAt dd_LD_load 88 rfl) tm_625 ?_
        refine v_iand G (decAt dd_LD_load 89 rfl) ?_
        refine v_aload_n G (decAt dd_LD_load 90 rfl) rfl ?_
        refine v_geta G (decAt dd_LD_load 91 rfl) f_LD_15 ?_
        refine v_aload_n G (decAt dd_LD_load 92 rfl) rfl ?_
        refine v_geta G (decAt dd_LD_load 93 rfl) f_LD_9 ?_
        refine v_aload_n G (decAt dd_LD_load 94 rfl) rfl ?_
        refine v_geta G (decAt dd_LD_load 95 rfl) f_LD_18 ?_
        refine v_iload_n G (decAt dd_LD_load 96 rfl) rfl ?_
        refine v_iald G 28 k (decAt dd_LD_load 97 rfl) (by decide) rfl rfl (by omega) ?_
        refine v_ri (y := (nI p0)) hwk ?_
        refine v_iald G 26 p0 (decAt dd_LD_load 98 rfl) (by decide) rfl rfl (by omega) ?_
        refine v_ri (y := (rawW (i0, nI j0))) hwp ?_
        refine v_ldc G (decAt dd_LD_load 99 rfl) tm_624 ?_
        refine v_iand G (decAt dd_LD_load 100 rfl) ?_
        refine v_ri (y := (nI j0)) f2 ?_
        refine v_iald G 27 j0 (decAt dd_LD_load 101 rfl) (by decide) rfl rfl (by omega) ?_
        refine v_ri (y := (nI (65536 + q0))) b2 ?_
        refine v_ior G (decAt dd_LD_load 102 rfl) ?_
        refine v_ri (y := (finW (cmp1 (la ls) (i0, nI j0)))) f1 ?_
        refine v_iast G 26 p0 (decAt dd_LD_load 103 rfl) (by decide) rfl rfl (by omega) ?_
        refine v_iinc_3 G (nI (k + 1)) (decAt dd_LD_load 104 rfl) ((nI_1 _)) (by decide) rfl ?_
        refine v_goto G 135 (decAt dd_LD_load 105 rfl) (by decide) ?_
        exact ih (k + 1) _ _ _ _ _ (by omega) (by rw [va_up_self]; exact hW.step hp hx rfl) (by rw [va_up_ne _ _ (by decide)]; exact hT) (by rw [va_up_ne _ _ (by decide)]; exact hB) h54 ⟨hF.1, fun i a b c => by rw [va_up_ne _ _ a]; exact hF.2.1 i a b c, hF.2.2⟩ h64 h326
  have J23 : ∀ (post pre : Lns) (ρ1 : Nat → Nat) (g1 A1 : Nat → Nat → Int32) (n1 : Nat → Nat) (x3 x4 : Option Value), ls = pre ++ post → LdI pre g1 A1 n1 → LdF g A n g1 A1 n1 → V p l e ({ frames := 5, cells := 2, slots := 652, locals := 115 } : Room) s m args below meth c 5 (Sy E DC AC s.heap ρ1 g1 A1 n1 (.ref (E.o 4))) (ug (n1 27)) (326 * ug (n1 27)) (MQ below (QW E DC AC (fun r ρ' g' A' n' tx' => r = some (.int 65536) ∧ WdF (A' 26) ls ∧ LdF g A n g' A' n' ∧ 64 ≤ n' 27 ∧ n' 27 ≤ 326 ∧ tx' = (.ref (E.o 4)))) args s 2 652 E.F) 23 [some (.ref (E.o 5)), some (.ref (E.o 4)), some (.int 65536), x3, x4] [] := by
    intro post
    induction post with
    | nil =>
      intro pre ρ1 g1 A1 n1 x3 x4 hls hI hF
      rw [List.append_nil] at hls
      subst hls
      obtain ⟨a1, a2, a3, a4, a5, a6, a7, a8⟩ := hI
      have t41 : g1 4 1 = nI (txt ls).length := (hF.1 4 1 (by decide)).trans h41
      refine v_aload_n G (decAt dd_LD_load 14 rfl) rfl ?_
      refine v_geti G (decAt dd_LD_load 15 rfl) f_LD_41 ?_
      refine v_ri (y := (nI (txt ls).length)) a1 ?_
      refine v_aload_n G (decAt dd_LD_load 16 rfl) rfl ?_
      refine v_gett G (decAt dd_LD_load 17 rfl) f_LD_31 ?_
      refine v_geti G (decAt dd_LD_load 18 rfl) f_LD_48 ?_
      refine v_ri (y := (nI (txt ls).length)) t41 ?_
      refine v_icmp_ge G 133 (decAt dd_LD_load 19 rfl) (by decide) (fun c34 => ?_) (fun c34 => ?_)
      · skip
        refine v_iconst G 0 (decAt dd_LD_load 69 rfl) (by decide) ?_
        refine v_istore_3 G (decAt dd_LD_load 70 rfl) (by decide) rfl ?_
        exact J135 (cL ls) 0 _ _ _ _ _ (by omega) (WdP.zero a4) a5 a6 a3 hF a7 a8
      · skip
        exact absurd (nI_le (Nat.le_refl _) (by omega)) c34
    | cons x rest ih =>
      intro pre ρ1 g1 A1 n1 x3 x4 hls hI hF
      have hI0 := hI
      obtain ⟨a1, a2, a3, a4, a5, a6, a7, a8⟩ := hI
      have t41 : g1 4 1 = nI (txt ls).length := (hF.1 4 1 (by decide)).trans h41
      have n25 : n1 25 = 4096 := (hF.2.2 25 (by decide)).trans h25
      have n26 : n1 26 = 4096 := (hF.2.2 26 (by decide)).trans h26
      have n28 : n1 28 = 64 := (hF.2.2 28 (by decide)).trans h28
      have A25 : A1 25 = A 25 := hF.2.1 25 (by decide) (by decide) (by decide)
      have hTl := txt_at hTx hls
      rw [← A25] at hTl
      have hle := txt_le hls
      have hnlt := nl_lt hls
      have hcle := cL_le hls
      have hls2 : ls = (pre ++ [x]) ++ rest := by rw [hls, List.append_assoc]; rfl
      obtain ⟨i, v⟩ := x
      obtain ⟨o0, o1, o2⟩ := hok (i, v) (by rw [hls]; simp)
      rw [lin_len] at hle
      dsimp only at o0 o1 o2 hcle
      have hkind : i = 0 ∨ i = 1 ∨ i = 2 ∨ i = 5 ∨ i = 6 ∨ i = 7 ∨ i = 9 ∨ i = 12 ∨ i = 13 ∨ i = 15 ∨ i = 11 ∨ i = 14   := by clear o1 o2; unfold insK at o0; omega
      rcases hkind with rfl | rfl | rfl | rfl | rfl | rfl | rfl | rfl | rfl | rfl | rfl | rfl
      · skip
        have hs : sLn 0 = 1 := rfl
        rw [hs] at hle
        have hlin : lin (0, v) = 76 :: ([] ++ (dec v ++ [10])) := by show sbyt.getD 0 [] ++ dec v ++ [10] = _; rw [show sbyt.getD 0 [] = [76] from rfl]; rfl
        rw [hlin] at hTl
        obtain ⟨hc0, hT1⟩ := TxA.cons hTl
        refine v_aload_n G (decAt dd_LD_load 14 rfl) rfl ?_
        refine v_geti G (decAt dd_LD_load 15 rfl) f_LD_41 ?_
        refine v_ri (y := (nI (txt pre).length)) a1 ?_
        refine v_aload_n G (decAt dd_LD_load 16 rfl) rfl ?_
        refine v_gett G (decAt dd_LD_load 17 rfl) f_LD_31 ?_
        refine v_geti G (decAt dd_LD_load 18 rfl) f_LD_48 ?_
        refine v_ri (y := (nI (txt ls).length)) t41 ?_
        refine v_icmp_ge G 133 (decAt dd_LD_load 19 rfl) (by decide) (fun c34 => ?_) (fun c34 => ?_)
        · skip
          exact absurd c34 (nI_ge (by have := dec_ne v; omega) (by omega))
        · skip
          refine v_aload_n G (decAt dd_LD_load 20 rfl) rfl ?_
          refine v_gett G (decAt dd_LD_load 21 rfl) f_LD_31 ?_
          refine v_geta G (decAt dd_LD_load 22 rfl) f_LD_35 ?_
          refine v_aload_n G (decAt dd_LD_load 23 rfl) rfl ?_
          refine v_geti G (decAt dd_LD_load 24 rfl) f_LD_41 ?_
          refine v_ri (y := (nI (txt pre).length)) a1 ?_
          refine v_bald G 25 (txt pre).length (decAt dd_LD_load 25 rfl) (by decide) rfl rfl (by omega) ?_
          refine v_ri (y := 76) hc0 ?_
          refine v_istore_3 G (decAt dd_LD_load 26 rfl) (by decide) rfl ?_
          refine v_iload_n G (decAt dd_LD_load 27 rfl) rfl ?_
          refine v_bipush G 48 (decAt dd_LD_load 28 rfl) (by decide) ?_
          refine v_icmp_lt G 98 (decAt dd_LD_load 29 rfl) (by decide) (fun c53 => absurd c53 (by decide)) (fun _ => ?_)
          refine v_iload_n G (decAt dd_LD_load 30 rfl) rfl ?_
          refine v_bipush G 57 (decAt dd_LD_load 31 rfl) (by decide) ?_
          refine v_icmp_gt G 98 (decAt dd_LD_load 32 rfl) (by decide) (fun _ => ?_) (fun c59 => absurd c59 (by decide))
          refine v_aload_n G (decAt dd_LD_load 51 rfl) rfl ?_
          refine v_dup G (decAt dd_LD_load 52 rfl) rfl ?_
          refine v_geti G (decAt dd_LD_load 53 rfl) f_LD_41 ?_
          refine v_ri (y := (nI (txt pre).length)) a1 ?_
          refine v_iconst G 1 (decAt dd_LD_load 54 rfl) (by decide) ?_
          refine v_iadd G (decAt dd_LD_load 55 rfl) ?_
          refine v_ri (y := (nI ((txt pre).length + 1))) (nI_1 _) ?_
          refine v_puti G (decAt dd_LD_load 56 rfl) f_LD_41 rfl rfl rfl ?_
          refine v_iload_n G (decAt dd_LD_load 57 rfl) rfl ?_
          refine v_bipush G 68 (decAt dd_LD_load 58 rfl) (by decide) ?_
          refine v_icmp_ne G 125 (decAt dd_LD_load 59 rfl) (by decide) (fun _ => ?_) (fun c111 => absurd c111 (by decide))
          refine v_aload_n G (decAt dd_LD_load 65 rfl) rfl ?_
          refine v_iload_n G (decAt dd_LD_load 66 rfl) rfl ?_
          refine v_callVvk G (As := [.int 76]) (decAt dd_LD_load 67 rfl) k_LD_61 (c_LD_ins_0 l hE (v := v) (at_ := (txt pre).length + 1) (mm := (nl pre).length) (wt := cL pre) (g := (up2 g1 5 5 (nI ((txt pre).length + 1)))) up2_self ((up2_ne (by decide)).trans a2) ((up2_ne (by decide)).trans a3) (by omega) (by omega) n26 n28 n25 hT1 (by omega)) (by decide) rfl rfl rfl (Nat.le_of_ble_eq_true rfl) (by decide) rfl rfl ⟨ug_le _, by have := ug_le (n1 27); show 326 * ug (n1 27) ≤ 652; omega⟩ ?_
          refine v_goto G 23 (decAt dd_LD_load 68 rfl) (by decide) ?_
          refine ih (pre ++ [(0, v)]) _ _ _ _ _ _ hls2 (hI0.ins rfl (by decide) (by rw [up2_ne (by decide), up2_self, hs]; congr 1; omega) up2_self (by rw [up2_ne (by decide), up2_ne (by decide), up2_ne (by decide)]) (va_up_self _ _ _) rfl (va_up_ne _ _ (by decide)) (va_up_ne _ _ (by decide))) ⟨fun k f z => ?_, fun i a b c => ?_, hF.2.2⟩
          · rw [up2_ne (by omega), up2_ne (by omega), up2_ne (by omega)]; exact hF.1 k f z
          · rw [va_up_ne _ _ a]; exact hF.2.1 i a b c
      · skip
        have hs : sLn 1 = 3 := rfl
        rw [hs] at hle
        have hlin : lin (1, v) = 76 :: ([73, 76] ++ (dec v ++ [10])) := by show sbyt.getD 1 [] ++ dec v ++ [10] = _; rw [show sbyt.getD 1 [] = [76, 73, 76] from rfl]; rfl
        rw [hlin] at hTl
        obtain ⟨hc0, hT1⟩ := TxA.cons hTl
        refine v_aload_n G (decAt dd_LD_load 14 rfl) rfl ?_
        refine v_geti G (decAt dd_LD_load 15 rfl) f_LD_41 ?_
        refine v_ri (y := (nI (txt pre).length)) a1 ?_
        refine v_aload_n G (decAt dd_LD_load 16 rfl) rfl ?_
        refine v_gett G (decAt dd_LD_load 17 rfl) f_LD_31 ?_
        refine v_geti G (decAt dd_LD_load 18 rfl) f_LD_48 ?_
        refine v_ri (y := (nI (txt ls).length)) t41 ?_
        refine v_icmp_ge G 133 (decAt dd_LD_load 19 rfl) (by decide) (fun c34 => ?_) (fun c34 => ?_)
        · skip
          exact absurd c34 (nI_ge (by have := dec_ne v; omega) (by omega))
        · skip
          refine v_aload_n G (decAt dd_LD_load 20 rfl) rfl ?_
          refine v_gett G (decAt dd_LD_load 21 rfl) f_LD_31 ?_
          refine v_geta G (decAt dd_LD_load 22 rfl) f_LD_35 ?_
          refine v_aload_n G (decAt dd_LD_load 23 rfl) rfl ?_
          refine v_geti G (decAt dd_LD_load 24 rfl) f_LD_41 ?_
          refine v_ri (y := (nI (txt pre).length)) a1 ?_
          refine v_bald G 25 (txt pre).length (decAt dd_LD_load 25 rfl) (by decide) rfl rfl (by omega) ?_
          refine v_ri (y := 76) hc0 ?_
          refine v_istore_3 G (decAt dd_LD_load 26 rfl) (by decide) rfl ?_
          refine v_iload_n G (decAt dd_LD_load 27 rfl) rfl ?_
          refine v_bipush G 48 (decAt dd_LD_load 28 rfl) (by decide) ?_
          refine v_icmp_lt G 98 (decAt dd_LD_load 29 rfl) (by decide) (fun c53 => absurd c53 (by decide)) (fun _ => ?_)
          refine v_iload_n G (decAt dd_LD_load 30 rfl) rfl ?_
          refine v_bipush G 57 (decAt dd_LD_load 31 rfl) (by decide) ?_
          refine v_icmp_gt G 98 (decAt dd_LD_load 32 rfl) (by decide) (fun _ => ?_) (fun c59 => absurd c59 (by decide))
          refine v_aload_n G (decAt dd_LD_load 51 rfl) rfl ?_
          refine v_dup G (decAt dd_LD_load 52 rfl) rfl ?_
          refine v_geti G (decAt dd_LD_load 53 rfl) f_LD_41 ?_
          refine v_ri (y := (nI (txt pre).length)) a1 ?_
          refine v_iconst G 1 (decAt dd_LD_load 54 rfl) (by decide) ?_
          refine v_iadd G (decAt dd_LD_load 55 rfl) ?_
          refine v_ri (y := (nI ((txt pre).length + 1))) (nI_1 _) ?_
          refine v_puti G (decAt dd_LD_load 56 rfl) f_LD_41 rfl rfl rfl ?_
          refine v_iload_n G (decAt dd_LD_load 57 rfl) rfl ?_
          refine v_bipush G 68 (decAt dd_LD_load 58 rfl) (by decide) ?_
          refine v_icmp_ne G 125 (decAt dd_LD_load 59 rfl) (by decide) (fun _ => ?_) (fun c111 => absurd c111 (by decide))
          refine v_aload_n G (decAt dd_LD_load 65 rfl) rfl ?_
          refine v_iload_n G (decAt dd_LD_load 66 rfl) rfl ?_
          refine v_callVvk G (As := [.int 76]) (decAt dd_LD_load 67 rfl) k_LD_61 (c_LD_ins_1 l hE (v := v) (at_ := (txt pre).length + 1) (mm := (nl pre).length) (wt := cL pre) (g := (up2 g1 5 5 (nI ((txt pre).length + 1)))) up2_self ((up2_ne (by decide)).trans a2) ((up2_ne (by decide)).trans a3) (by omega) (by have : bL 1 = 1 := rfl; omega) n26 n28 n25 hT1 (by omega)) (by decide) rfl rfl rfl (Nat.le_of_ble_eq_true rfl) (by decide) rfl rfl ⟨ug_le _, by have := ug_le (n1 27); show 326 * ug (n1 27) ≤ 652; omega⟩ ?_
          refine v_goto G 23 (decAt dd_LD_load 68 rfl) (by decide) ?_
          refine ih (pre ++ [(1, v)]) _ _ _ _ _ _ hls2 (hI0.insL rfl (by rw [up2_ne (by decide), up2_ne (by decide), up2_self, hs]; congr 1; omega) up2_self (by rw [up2_ne (by decide), up2_self]) (va_up_self _ _ _) (by rw [va_up_ne _ _ (by decide), va_up_self]) (by rw [va_up_ne _ _ (by decide), va_up_ne _ _ (by decide)])) ⟨fun k f z => ?_, fun i a b c => ?_, hF.2.2⟩
          · rw [up2_ne (by omega), up2_ne (by omega), up2_ne (by omega), up2_ne (by omega)]; exact hF.1 k f z
          · rw [va_up_ne _ _ a, va_up_ne _ _ c]; exact hF.2.1 i a b c
      · skip
        have hs : sLn 2 = 3 := rfl
        rw [hs] at hle
        have hlin : lin (2, v) = 76 :: ([73, 80] ++ (dec v ++ [10])) := by show sbyt.getD 2 [] ++ dec v ++ [10] = _; rw [show sbyt.getD 2 [] = [76, 73, 80] from rfl]; rfl
        rw [hlin] at hTl
        obtain ⟨hc0, hT1⟩ := TxA.cons hTl
        refine v_aload_n G (decAt dd_LD_load 14 rfl) rfl ?_
        refine v_geti G (decAt dd_LD_load 15 rfl) f_LD_41 ?_
        refine v_ri (y := (nI (txt pre).length)) a1 ?_
        refine v_aload_n G (decAt dd_LD_load 16 rfl) rfl ?_
        refine v_gett G (decAt dd_LD_load 17 rfl) f_LD_31 ?_
        refine v_geti G (decAt dd_LD_load 18 rfl) f_LD_48 ?_
        refine v_ri (y := (nI (txt ls).length)) t41 ?_
        refine v_icmp_ge G 133 (decAt dd_LD_load 19 rfl) (by decide) (fun c34 => ?_) (fun c34 => ?_)
        · skip
          exact absurd c34 (nI_ge (by have := dec_ne v; omega) (by omega))
        · skip
          refine v_aload_n G (decAt dd_LD_load 20 rfl) rfl ?_
          refine v_gett G (decAt dd_LD_load 21 rfl) f_LD_31 ?_
          refine v_geta G (decAt dd_LD_load 22 rfl) f_LD_35 ?_
          refine v_aload_n G (decAt dd_LD_load 23 rfl) rfl ?_
          refine v_geti G (decAt dd_LD_load 24 rfl) f_LD_41 ?_
          refine v_ri (y := (nI (txt pre).length)) a1 ?_
          refine v_bald G 25 (txt pre).length (decAt dd_LD_load 25 rfl) (by decide) rfl rfl (by omega) ?_
          refine v_ri (y := 76) hc0 ?_
          refine v_istore_3 G (decAt dd_LD_load 26 rfl) (by decide) rfl ?_
          refine v_iload_n G (decAt dd_LD_load 27 rfl) rfl ?_
          refine v_bipush G 48 (decAt dd_LD_load 28 rfl) (by decide) ?_
          refine v_icmp_lt G 98 (decAt dd_LD_load 29 rfl) (by decide) (fun c53 => absurd c53 (by decide)) (fun _ => ?_)
          refine v_iload_n G (decAt dd_LD_load 30 rfl) rfl ?_
          refine v_bipush G 57 (decAt dd_LD_load 31 rfl) (by decide) ?_
          refine v_icmp_gt G 98 (decAt dd_LD_load 32 rfl) (by decide) (fun _ => ?_) (fun c59 => absurd c59 (by decide))
          refine v_aload_n G (decAt dd_LD_load 51 rfl) rfl ?_
          refine v_dup G (decAt dd_LD_load 52 rfl) rfl ?_
          refine v_geti G (decAt dd_LD_load 53 rfl) f_LD_41 ?_
          refine v_ri (y := (nI (txt pre).length)) a1 ?_
          refine v_iconst G 1 (decAt dd_LD_load 54 rfl) (by decide) ?_
          refine v_iadd G (decAt dd_LD_load 55 rfl) ?_
          refine v_ri (y := (nI ((txt pre).length + 1))) (nI_1 _) ?_
          refine v_puti G (decAt dd_LD_load 56 rfl) f_LD_41 rfl rfl rfl ?_
          refine v_iload_n G (decAt dd_LD_load 57 rfl) rfl ?_
          refine v_bipush G 68 (decAt dd_LD_load 58 rfl) (by decide) ?_
          refine v_icmp_ne G 125 (decAt dd_LD_load 59 rfl) (by decide) (fun _ => ?_) (fun c111 => absurd c111 (by decide))
          refine v_aload_n G (decAt dd_LD_load 65 rfl) rfl ?_
          refine v_iload_n G (decAt dd_LD_load 66 rfl) rfl ?_
          refine v_callVvk G (As := [.int 76]) (decAt dd_LD_load 67 rfl) k_LD_61 (c_LD_ins_2 l hE (v := v) (at_ := (txt pre).length + 1) (mm := (nl pre).length) (wt := cL pre) (g := (up2 g1 5 5 (nI ((txt pre).length + 1)))) up2_self ((up2_ne (by decide)).trans a2) ((up2_ne (by decide)).trans a3) (by omega) (by omega) n26 n28 n25 hT1 (by omega)) (by decide) rfl rfl rfl (Nat.le_of_ble_eq_true rfl) (by decide) rfl rfl ⟨ug_le _, by have := ug_le (n1 27); show 326 * ug (n1 27) ≤ 652; omega⟩ ?_
          refine v_goto G 23 (decAt dd_LD_load 68 rfl) (by decide) ?_
          refine ih (pre ++ [(2, v)]) _ _ _ _ _ _ hls2 (hI0.ins rfl (by decide) (by rw [up2_ne (by decide), up2_self, hs]; congr 1; omega) up2_self (by rw [up2_ne (by decide), up2_ne (by decide), up2_ne (by decide)]) (va_up_self _ _ _) rfl (va_up_ne _ _ (by decide)) (va_up_ne _ _ (by decide))) ⟨fun k f z => ?_, fun i a b c => ?_, hF.2.2⟩
          · rw [up2_ne (by omega), up2_ne (by omega), up2_ne (by omega)]; exact hF.1 k f z
          · rw [va_up_ne _ _ a]; exact hF.2.1 i a b c
      · skip
        have hs : sLn 5 = 3 := rfl
        rw [hs] at hle
        have hlin : lin (5, v) = 76 :: ([73, 81] ++ (dec v ++ [10])) := by show sbyt.getD 5 [] ++ dec v ++ [10] = _; rw [show sbyt.getD 5 [] = [76, 73, 81] from rfl]; rfl
        rw [hlin] at hTl
        obtain ⟨hc0, hT1⟩ := TxA.cons hTl
        refine v_aload_n G (decAt dd_LD_load 14 rfl) rfl ?_
        refine v_geti G (decAt dd_LD_load 15 rfl) f_LD_41 ?_
        refine v_ri (y := (nI (txt pre).length)) a1 ?_
        refine v_aload_n G (decAt dd_LD_load 16 rfl) rfl ?_
        refine v_gett G (decAt dd_LD_load 17 rfl) f_LD_31 ?_
        refine v_geti G (decAt dd_LD_load 18 rfl) f_LD_48 ?_
        refine v_ri (y := (nI (txt ls).length)) t41 ?_
        refine v_icmp_ge G 133 (decAt dd_LD_load 19 rfl) (by decide) (fun c34 => ?_) (fun c34 => ?_)
        · skip
          exact absurd c34 (nI_ge (by have := dec_ne v; omega) (by omega))
        · skip
          refine v_aload_n G (decAt dd_LD_load 20 rfl) rfl ?_
          refine v_gett G (decAt dd_LD_load 21 rfl) f_LD_31 ?_
          refine v_geta G (decAt dd_LD_load 22 rfl) f_LD_35 ?_
          refine v_aload_n G (decAt dd_LD_load 23 rfl) rfl ?_
          refine v_geti G (decAt dd_LD_load 24 rfl) f_LD_41 ?_
          refine v_ri (y := (nI (txt pre).length)) a1 ?_
          refine v_bald G 25 (txt pre).length (decAt dd_LD_load 25 rfl) (by decide) rfl rfl (by omega) ?_
          refine v_ri (y := 76) hc0 ?_
          refine v_istore_3 G (decAt dd_LD_load 26 rfl) (by decide) rfl ?_
          refine v_iload_n G (decAt dd_LD_load 27 rfl) rfl ?_
          refine v_bipush G 48 (decAt dd_LD_load 28 rfl) (by decide) ?_
          refine v_icmp_lt G 98 (decAt dd_LD_load 29 rfl) (by decide) (fun c53 => absurd c53 (by decide)) (fun _ => ?_)
          refine v_iload_n G (decAt dd_LD_load 30 rfl) rfl ?_
          refine v_bipush G 57 (decAt dd_LD_load 31 rfl) (by decide) ?_
          refine v_icmp_gt G 98 (decAt dd_LD_load 32 rfl) (by decide) (fun _ => ?_) (fun c59 => absurd c59 (by decide))
          refine v_aload_n G (decAt dd_LD_load 51 rfl) rfl ?_
          refine v_dup G (decAt dd_LD_load 52 rfl) rfl ?_
          refine v_geti G (decAt dd_LD_load 53 rfl) f_LD_41 ?_
          refine v_ri (y := (nI (txt pre).length)) a1 ?_
          refine v_iconst G 1 (decAt dd_LD_load 54 rfl) (by decide) ?_
          refine v_iadd G (decAt dd_LD_load 55 rfl) ?_
          refine v_ri (y := (nI ((txt pre).length + 1))) (nI_1 _) ?_
          refine v_puti G (decAt dd_LD_load 56 rfl) f_LD_41 rfl rfl rfl ?_
          refine v_iload_n G (decAt dd_LD_load 57 rfl) rfl ?_
          refine v_bipush G 68 (decAt dd_LD_load 58 rfl) (by decide) ?_
          refine v_icmp_ne G 125 (decAt dd_LD_load 59 rfl) (by decide) (fun _ => ?_) (fun c111 => absurd c111 (by decide))
          refine v_aload_n G (decAt dd_LD_load 65 rfl) rfl ?_
          refine v_iload_n G (decAt dd_LD_load 66 rfl) rfl ?_
          refine v_callVvk G (As := [.int 76]) (decAt dd_LD_load 67 rfl) k_LD_61 (c_LD_ins_5 l hE (v := v) (at_ := (txt pre).length + 1) (mm := (nl pre).length) (wt := cL pre) (g := (up2 g1 5 5 (nI ((txt pre).length + 1)))) up2_self ((up2_ne (by decide)).trans a2) ((up2_ne (by decide)).trans a3) (by omega) (by omega) n26 n28 n25 hT1 (by omega)) (by decide) rfl rfl rfl (Nat.le_of_ble_eq_true rfl) (by decide) rfl rfl ⟨ug_le _, by have := ug_le (n1 27); show 326 * ug (n1 27) ≤ 652; omega⟩ ?_
          refine v_goto G 23 (decAt dd_LD_load 68 rfl) (by decide) ?_
          refine ih (pre ++ [(5, v)]) _ _ _ _ _ _ hls2 (hI0.ins rfl (by decide) (by rw [up2_ne (by decide), up2_self, hs]; congr 1; omega) up2_self (by rw [up2_ne (by decide), up2_ne (by decide), up2_ne (by decide)]) (va_up_self _ _ _) rfl (va_up_ne _ _ (by decide)) (va_up_ne _ _ (by decide))) ⟨fun k f z => ?_, fun i a b c => ?_, hF.2.2⟩
          · rw [up2_ne (by omega), up2_ne (by omega), up2_ne (by omega)]; exact hF.1 k f z
          · rw [va_up_ne _ _ a]; exact hF.2.1 i a b c
      · skip
        have hs : sLn 6 = 2 := rfl
        rw [hs] at hle
        have hlin : lin (6, v) = 83 :: ([81] ++ (dec v ++ [10])) := by show sbyt.getD 6 [] ++ dec v ++ [10] = _; rw [show sbyt.getD 6 [] = [83, 81] from rfl]; rfl
        rw [hlin] at hTl
        obtain ⟨hc0, hT1⟩ := TxA.cons hTl
        refine v_aload_n G (decAt dd_LD_load 14 rfl) rfl ?_
        refine v_geti G (decAt dd_LD_load 15 rfl) f_LD_41 ?_
        refine v_ri (y := (nI (txt pre).length)) a1 ?_
        refine v_aload_n G (decAt dd_LD_load 16 rfl) rfl ?_
        refine v_gett G (decAt dd_LD_load 17 rfl) f_LD_31 ?_
        refine v_geti G (decAt dd_LD_load 18 rfl) f_LD_48 ?_
        refine v_ri (y := (nI (txt ls).length)) t41 ?_
        refine v_icmp_ge G 133 (decAt dd_LD_load 19 rfl) (by decide) (fun c34 => ?_) (fun c34 => ?_)
        · skip
          exact absurd c34 (nI_ge (by have := dec_ne v; omega) (by omega))
        · skip
          refine v_aload_n G (decAt dd_LD_load 20 rfl) rfl ?_
          refine v_gett G (decAt dd_LD_load 21 rfl) f_LD_31 ?_
          refine v_geta G (decAt dd_LD_load 22 rfl) f_LD_35 ?_
          refine v_aload_n G (decAt dd_LD_load 23 rfl) rfl ?_
          refine v_geti G (decAt dd_LD_load 24 rfl) f_LD_41 ?_
          refine v_ri (y := (nI (txt pre).length)) a1 ?_
          refine v_bald G 25 (txt pre).length (decAt dd_LD_load 25 rfl) (by decide) rfl rfl (by omega) ?_
          refine v_ri (y := 83) hc0 ?_
          refine v_istore_3 G (decAt dd_LD_load 26 rfl) (by decide) rfl ?_
          refine v_iload_n G (decAt dd_LD_load 27 rfl) rfl ?_
          refine v_bipush G 48 (decAt dd_LD_load 28 rfl) (by decide) ?_
          refine v_icmp_lt G 98 (decAt dd_LD_load 29 rfl) (by decide) (fun c53 => absurd c53 (by decide)) (fun _ => ?_)
          refine v_iload_n G (decAt dd_LD_load 30 rfl) rfl ?_
          refine v_bipush G 57 (decAt dd_LD_load 31 rfl) (by decide) ?_
          refine v_icmp_gt G 98 (decAt dd_LD_load 32 rfl) (by decide) (fun _ => ?_) (fun c59 => absurd c59 (by decide))
          refine v_aload_n G (decAt dd_LD_load 51 rfl) rfl ?_
          refine v_dup G (decAt dd_LD_load 52 rfl) rfl ?_
          refine v_geti G (decAt dd_LD_load 53 rfl) f_LD_41 ?_
          refine v_ri (y := (nI (txt pre).length)) a1 ?_
          refine v_iconst G 1 (decAt dd_LD_load 54 rfl) (by decide) ?_
          refine v_iadd G (decAt dd_LD_load 55 rfl) ?_
          refine v_ri (y := (nI ((txt pre).length + 1))) (nI_1 _) ?_
          refine v_puti G (decAt dd_LD_load 56 rfl) f_LD_41 rfl rfl rfl ?_
          refine v_iload_n G (decAt dd_LD_load 57 rfl) rfl ?_
          refine v_bipush G 68 (decAt dd_LD_load 58 rfl) (by decide) ?_
          refine v_icmp_ne G 125 (decAt dd_LD_load 59 rfl) (by decide) (fun _ => ?_) (fun c111 => absurd c111 (by decide))
          refine v_aload_n G (decAt dd_LD_load 65 rfl) rfl ?_
          refine v_iload_n G (decAt dd_LD_load 66 rfl) rfl ?_
          refine v_callVvk G (As := [.int 83]) (decAt dd_LD_load 67 rfl) k_LD_61 (c_LD_ins_6 l hE (v := v) (at_ := (txt pre).length + 1) (mm := (nl pre).length) (wt := cL pre) (g := (up2 g1 5 5 (nI ((txt pre).length + 1)))) up2_self ((up2_ne (by decide)).trans a2) ((up2_ne (by decide)).trans a3) (by omega) (by omega) n26 n28 n25 hT1 (by omega)) (by decide) rfl rfl rfl (Nat.le_of_ble_eq_true rfl) (by decide) rfl rfl ⟨ug_le _, by have := ug_le (n1 27); show 326 * ug (n1 27) ≤ 652; omega⟩ ?_
          refine v_goto G 23 (decAt dd_LD_load 68 rfl) (by decide) ?_
          refine ih (pre ++ [(6, v)]) _ _ _ _ _ _ hls2 (hI0.ins rfl (by decide) (by rw [up2_ne (by decide), up2_self, hs]; congr 1; omega) up2_self (by rw [up2_ne (by decide), up2_ne (by decide), up2_ne (by decide)]) (va_up_self _ _ _) rfl (va_up_ne _ _ (by decide)) (va_up_ne _ _ (by decide))) ⟨fun k f z => ?_, fun i a b c => ?_, hF.2.2⟩
          · rw [up2_ne (by omega), up2_ne (by omega), up2_ne (by omega)]; exact hF.1 k f z
          · rw [va_up_ne _ _ a]; exact hF.2.1 i a b c
      · skip
        have hs : sLn 7 = 2 := rfl
        rw [hs] at hle
        have hlin : lin (7, v) = 83 :: ([80] ++ (dec v ++ [10])) := by show sbyt.getD 7 [] ++ dec v ++ [10] = _; rw [show sbyt.getD 7 [] = [83, 80] from rfl]; rfl
        rw [hlin] at hTl
        obtain ⟨hc0, hT1⟩ := TxA.cons hTl
        refine v_aload_n G (decAt dd_LD_load 14 rfl) rfl ?_
        refine v_geti G (decAt dd_LD_load 15 rfl) f_LD_41 ?_
        refine v_ri (y := (nI (txt pre).length)) a1 ?_
        refine v_aload_n G (decAt dd_LD_load 16 rfl) rfl ?_
        refine v_gett G (decAt dd_LD_load 17 rfl) f_LD_31 ?_
        refine v_geti G (decAt dd_LD_load 18 rfl) f_LD_48 ?_
        refine v_ri (y := (nI (txt ls).length)) t41 ?_
        refine v_icmp_ge G 133 (decAt dd_LD_load 19 rfl) (by decide) (fun c34 => ?_) (fun c34 => ?_)
        · skip
          exact absurd c34 (nI_ge (by have := dec_ne v; omega) (by omega))
        · skip
          refine v_aload_n G (decAt dd_LD_load 20 rfl) rfl ?_
          refine v_gett G (decAt dd_LD_load 21 rfl) f_LD_31 ?_
          refine v_geta G (decAt dd_LD_load 22 rfl) f_LD_35 ?_
          refine v_aload_n G (decAt dd_LD_load 23 rfl) rfl ?_
          refine v_geti G (decAt dd_LD_load 24 rfl) f_LD_41 ?_
          refine v_ri (y := (nI (txt pre).length)) a1 ?_
          refine v_bald G 25 (txt pre).length (decAt dd_LD_load 25 rfl) (by decide) rfl rfl (by omega) ?_
          refine v_ri (y := 83) hc0 ?_
          refine v_istore_3 G (decAt dd_LD_load 26 rfl) (by decide) rfl ?_
          refine v_iload_n G (decAt dd_LD_load 27 rfl) rfl ?_
          refine v_bipush G 48 (decAt dd_LD_load 28 rfl) (by decide) ?_
          refine v_icmp_lt G 98 (decAt dd_LD_load 29 rfl) (by decide) (fun c53 => absurd c53 (by decide)) (fun _ => ?_)
          refine v_iload_n G (decAt dd_LD_load 30 rfl) rfl ?_
          refine v_bipush G 57 (decAt dd_LD_load 31 rfl) (by decide) ?_
          refine v_icmp_gt G 98 (decAt dd_LD_load 32 rfl) (by decide) (fun _ => ?_) (fun c59 => absurd c59 (by decide))
          refine v_aload_n G (decAt dd_LD_load 51 rfl) rfl ?_
          refine v_dup G (decAt dd_LD_load 52 rfl) rfl ?_
          refine v_geti G (decAt dd_LD_load 53 rfl) f_LD_41 ?_
          refine v_ri (y := (nI (txt pre).length)) a1 ?_
          refine v_iconst G 1 (decAt dd_LD_load 54 rfl) (by decide) ?_
          refine v_iadd G (decAt dd_LD_load 55 rfl) ?_
          refine v_ri (y := (nI ((txt pre).length + 1))) (nI_1 _) ?_
          refine v_puti G (decAt dd_LD_load 56 rfl) f_LD_41 rfl rfl rfl ?_
          refine v_iload_n G (decAt dd_LD_load 57 rfl) rfl ?_
          refine v_bipush G 68 (decAt dd_LD_load 58 rfl) (by decide) ?_
          refine v_icmp_ne G 125 (decAt dd_LD_load 59 rfl) (by decide) (fun _ => ?_) (fun c111 => absurd c111 (by decide))
          refine v_aload_n G (decAt dd_LD_load 65 rfl) rfl ?_
          refine v_iload_n G (decAt dd_LD_load 66 rfl) rfl ?_
          refine v_callVvk G (As := [.int 83]) (decAt dd_LD_load 67 rfl) k_LD_61 (c_LD_ins_7 l hE (v := v) (at_ := (txt pre).length + 1) (mm := (nl pre).length) (wt := cL pre) (g := (up2 g1 5 5 (nI ((txt pre).length + 1)))) up2_self ((up2_ne (by decide)).trans a2) ((up2_ne (by decide)).trans a3) (by omega) (by omega) n26 n28 n25 hT1 (by omega)) (by decide) rfl rfl rfl (Nat.le_of_ble_eq_true rfl) (by decide) rfl rfl ⟨ug_le _, by have := ug_le (n1 27); show 326 * ug (n1 27) ≤ 652; omega⟩ ?_
          refine v_goto G 23 (decAt dd_LD_load 68 rfl) (by decide) ?_
          refine ih (pre ++ [(7, v)]) _ _ _ _ _ _ hls2 (hI0.ins rfl (by decide) (by rw [up2_ne (by decide), up2_self, hs]; congr 1; omega) up2_self (by rw [up2_ne (by decide), up2_ne (by decide), up2_ne (by decide)]) (va_up_self _ _ _) rfl (va_up_ne _ _ (by decide)) (va_up_ne _ _ (by decide))) ⟨fun k f z => ?_, fun i a b c => ?_, hF.2.2⟩
          · rw [up2_ne (by omega), up2_ne (by omega), up2_ne (by omega)]; exact hF.1 k f z
          · rw [va_up_ne _ _ a]; exact hF.2.1 i a b c
      · skip
        have hs : sLn 9 = 1 := rfl
        rw [hs] at hle
        have hlin : lin (9, v) = 88 :: ([] ++ (dec v ++ [10])) := by show sbyt.getD 9 [] ++ dec v ++ [10] = _; rw [show sbyt.getD 9 [] = [88] from rfl]; rfl
        rw [hlin] at hTl
        obtain ⟨hc0, hT1⟩ := TxA.cons hTl
        refine v_aload_n G (decAt dd_LD_load 14 rfl) rfl ?_
        refine v_geti G (decAt dd_LD_load 15 rfl) f_LD_41 ?_
        refine v_ri (y := (nI (txt pre).length)) a1 ?_
        refine v_aload_n G (decAt dd_LD_load 16 rfl) rfl ?_
        refine v_gett G (decAt dd_LD_load 17 rfl) f_LD_31 ?_
        refine v_geti G (decAt dd_LD_load 18 rfl) f_LD_48 ?_
        refine v_ri (y := (nI (txt ls).length)) t41 ?_
        refine v_icmp_ge G 133 (decAt dd_LD_load 19 rfl) (by decide) (fun c34 => ?_) (fun c34 => ?_)
        · skip
          exact absurd c34 (nI_ge (by have := dec_ne v; omega) (by omega))
        · skip
          refine v_aload_n G (decAt dd_LD_load 20 rfl) rfl ?_
          refine v_gett G (decAt dd_LD_load 21 rfl) f_LD_31 ?_
          refine v_geta G (decAt dd_LD_load 22 rfl) f_LD_35 ?_
          refine v_aload_n G (decAt dd_LD_load 23 rfl) rfl ?_
          refine v_geti G (decAt dd_LD_load 24 rfl) f_LD_41 ?_
          refine v_ri (y := (nI (txt pre).length)) a1 ?_
          refine v_bald G 25 (txt pre).length (decAt dd_LD_load 25 rfl) (by decide) rfl rfl (by omega) ?_
          refine v_ri (y := 88) hc0 ?_
          refine v_istore_3 G (decAt dd_LD_load 26 rfl) (by decide) rfl ?_
          refine v_iload_n G (decAt dd_LD_load 27 rfl) rfl ?_
          refine v_bipush G 48 (decAt dd_LD_load 28 rfl) (by decide) ?_
          refine v_icmp_lt G 98 (decAt dd_LD_load 29 rfl) (by decide) (fun c53 => absurd c53 (by decide)) (fun _ => ?_)
          refine v_iload_n G (decAt dd_LD_load 30 rfl) rfl ?_
          refine v_bipush G 57 (decAt dd_LD_load 31 rfl) (by decide) ?_
          refine v_icmp_gt G 98 (decAt dd_LD_load 32 rfl) (by decide) (fun _ => ?_) (fun c59 => absurd c59 (by decide))
          refine v_aload_n G (decAt dd_LD_load 51 rfl) rfl ?_
          refine v_dup G (decAt dd_LD_load 52 rfl) rfl ?_
          refine v_geti G (decAt dd_LD_load 53 rfl) f_LD_41 ?_
          refine v_ri (y := (nI (txt pre).length)) a1 ?_
          refine v_iconst G 1 (decAt dd_LD_load 54 rfl) (by decide) ?_
          refine v_iadd G (decAt dd_LD_load 55 rfl) ?_
          refine v_ri (y := (nI ((txt pre).length + 1))) (nI_1 _) ?_
          refine v_puti G (decAt dd_LD_load 56 rfl) f_LD_41 rfl rfl rfl ?_
          refine v_iload_n G (decAt dd_LD_load 57 rfl) rfl ?_
          refine v_bipush G 68 (decAt dd_LD_load 58 rfl) (by decide) ?_
          refine v_icmp_ne G 125 (decAt dd_LD_load 59 rfl) (by decide) (fun _ => ?_) (fun c111 => absurd c111 (by decide))
          refine v_aload_n G (decAt dd_LD_load 65 rfl) rfl ?_
          refine v_iload_n G (decAt dd_LD_load 66 rfl) rfl ?_
          refine v_callVvk G (As := [.int 88]) (decAt dd_LD_load 67 rfl) k_LD_61 (c_LD_ins_9 l hE (v := v) (at_ := (txt pre).length + 1) (mm := (nl pre).length) (wt := cL pre) (g := (up2 g1 5 5 (nI ((txt pre).length + 1)))) up2_self ((up2_ne (by decide)).trans a2) ((up2_ne (by decide)).trans a3) (by omega) (by omega) n26 n28 n25 hT1 (by omega)) (by decide) rfl rfl rfl (Nat.le_of_ble_eq_true rfl) (by decide) rfl rfl ⟨ug_le _, by have := ug_le (n1 27); show 326 * ug (n1 27) ≤ 652; omega⟩ ?_
          refine v_goto G 23 (decAt dd_LD_load 68 rfl) (by decide) ?_
          refine ih (pre ++ [(9, v)]) _ _ _ _ _ _ hls2 (hI0.ins rfl (by decide) (by rw [up2_ne (by decide), up2_self, hs]; congr 1; omega) up2_self (by rw [up2_ne (by decide), up2_ne (by decide), up2_ne (by decide)]) (va_up_self _ _ _) rfl (va_up_ne _ _ (by decide)) (va_up_ne _ _ (by decide))) ⟨fun k f z => ?_, fun i a b c => ?_, hF.2.2⟩
          · rw [up2_ne (by omega), up2_ne (by omega), up2_ne (by omega)]; exact hF.1 k f z
          · rw [va_up_ne _ _ a]; exact hF.2.1 i a b c
      · skip
        have hs : sLn 12 = 2 := rfl
        rw [hs] at hle
        have hlin : lin (12, v) = 84 :: ([76] ++ (dec v ++ [10])) := by show sbyt.getD 12 [] ++ dec v ++ [10] = _; rw [show sbyt.getD 12 [] = [84, 76] from rfl]; rfl
        rw [hlin] at hTl
        obtain ⟨hc0, hT1⟩ := TxA.cons hTl
        refine v_aload_n G (decAt dd_LD_load 14 rfl) rfl ?_
        refine v_geti G (decAt dd_LD_load 15 rfl) f_LD_41 ?_
        refine v_ri (y := (nI (txt pre).length)) a1 ?_
        refine v_aload_n G (decAt dd_LD_load 16 rfl) rfl ?_
        refine v_gett G (decAt dd_LD_load 17 rfl) f_LD_31 ?_
        refine v_geti G (decAt dd_LD_load 18 rfl) f_LD_48 ?_
        refine v_ri (y := (nI (txt ls).length)) t41 ?_
        refine v_icmp_ge G 133 (decAt dd_LD_load 19 rfl) (by decide) (fun c34 => ?_) (fun c34 => ?_)
        · skip
          exact absurd c34 (nI_ge (by have := dec_ne v; omega) (by omega))
        · skip
          refine v_aload_n G (decAt dd_LD_load 20 rfl) rfl ?_
          refine v_gett G (decAt dd_LD_load 21 rfl) f_LD_31 ?_
          refine v_geta G (decAt dd_LD_load 22 rfl) f_LD_35 ?_
          refine v_aload_n G (decAt dd_LD_load 23 rfl) rfl ?_
          refine v_geti G (decAt dd_LD_load 24 rfl) f_LD_41 ?_
          refine v_ri (y := (nI (txt pre).length)) a1 ?_
          refine v_bald G 25 (txt pre).length (decAt dd_LD_load 25 rfl) (by decide) rfl rfl (by omega) ?_
          refine v_ri (y := 84) hc0 ?_
          refine v_istore_3 G (decAt dd_LD_load 26 rfl) (by decide) rfl ?_
          refine v_iload_n G (decAt dd_LD_load 27 rfl) rfl ?_
          refine v_bipush G 48 (decAt dd_LD_load 28 rfl) (by decide) ?_
          refine v_icmp_lt G 98 (decAt dd_LD_load 29 rfl) (by decide) (fun c53 => absurd c53 (by decide)) (fun _ => ?_)
          refine v_iload_n G (decAt dd_LD_load 30 rfl) rfl ?_
          refine v_bipush G 57 (decAt dd_LD_load 31 rfl) (by decide) ?_
          refine v_icmp_gt G 98 (decAt dd_LD_load 32 rfl) (by decide) (fun _ => ?_) (fun c59 => absurd c59 (by decide))
          refine v_aload_n G (decAt dd_LD_load 51 rfl) rfl ?_
          refine v_dup G (decAt dd_LD_load 52 rfl) rfl ?_
          refine v_geti G (decAt dd_LD_load 53 rfl) f_LD_41 ?_
          refine v_ri (y := (nI (txt pre).length)) a1 ?_
          refine v_iconst G 1 (decAt dd_LD_load 54 rfl) (by decide) ?_
          refine v_iadd G (decAt dd_LD_load 55 rfl) ?_
          refine v_ri (y := (nI ((txt pre).length + 1))) (nI_1 _) ?_
          refine v_puti G (decAt dd_LD_load 56 rfl) f_LD_41 rfl rfl rfl ?_
          refine v_iload_n G (decAt dd_LD_load 57 rfl) rfl ?_
          refine v_bipush G 68 (decAt dd_LD_load 58 rfl) (by decide) ?_
          refine v_icmp_ne G 125 (decAt dd_LD_load 59 rfl) (by decide) (fun _ => ?_) (fun c111 => absurd c111 (by decide))
          refine v_aload_n G (decAt dd_LD_load 65 rfl) rfl ?_
          refine v_iload_n G (decAt dd_LD_load 66 rfl) rfl ?_
          refine v_callVvk G (As := [.int 84]) (decAt dd_LD_load 67 rfl) k_LD_61 (c_LD_ins_12 l hE (v := v) (at_ := (txt pre).length + 1) (mm := (nl pre).length) (wt := cL pre) (g := (up2 g1 5 5 (nI ((txt pre).length + 1)))) up2_self ((up2_ne (by decide)).trans a2) ((up2_ne (by decide)).trans a3) (by omega) (by have : bL 12 = 1 := rfl; omega) n26 n28 n25 hT1 (by omega)) (by decide) rfl rfl rfl (Nat.le_of_ble_eq_true rfl) (by decide) rfl rfl ⟨ug_le _, by have := ug_le (n1 27); show 326 * ug (n1 27) ≤ 652; omega⟩ ?_
          refine v_goto G 23 (decAt dd_LD_load 68 rfl) (by decide) ?_
          refine ih (pre ++ [(12, v)]) _ _ _ _ _ _ hls2 (hI0.insL rfl (by rw [up2_ne (by decide), up2_ne (by decide), up2_self, hs]; congr 1; omega) up2_self (by rw [up2_ne (by decide), up2_self]) (va_up_self _ _ _) (by rw [va_up_ne _ _ (by decide), va_up_self]) (by rw [va_up_ne _ _ (by decide), va_up_ne _ _ (by decide)])) ⟨fun k f z => ?_, fun i a b c => ?_, hF.2.2⟩
          · rw [up2_ne (by omega), up2_ne (by omega), up2_ne (by omega), up2_ne (by omega)]; exact hF.1 k f z
          · rw [va_up_ne _ _ a, va_up_ne _ _ c]; exact hF.2.1 i a b c
      · skip
        have hs : sLn 13 = 2 := rfl
        rw [hs] at hle
        have hlin : lin (13, v) = 74 :: ([76] ++ (dec v ++ [10])) := by show sbyt.getD 13 [] ++ dec v ++ [10] = _; rw [show sbyt.getD 13 [] = [74, 76] from rfl]; rfl
        rw [hlin] at hTl
        obtain ⟨hc0, hT1⟩ := TxA.cons hTl
        refine v_aload_n G (decAt dd_LD_load 14 rfl) rfl ?_
        refine v_geti G (decAt dd_LD_load 15 rfl) f_LD_41 ?_
        refine v_ri (y := (nI (txt pre).length)) a1 ?_
        refine v_aload_n G (decAt dd_LD_load 16 rfl) rfl ?_
        refine v_gett G (decAt dd_LD_load 17 rfl) f_LD_31 ?_
        refine v_geti G (decAt dd_LD_load 18 rfl) f_LD_48 ?_
        refine v_ri (y := (nI (txt ls).length)) t41 ?_
        refine v_icmp_ge G 133 (decAt dd_LD_load 19 rfl) (by decide) (fun c34 => ?_) (fun c34 => ?_)
        · skip
          exact absurd c34 (nI_ge (by have := dec_ne v; omega) (by omega))
        · skip
          refine v_aload_n G (decAt dd_LD_load 20 rfl) rfl ?_
          refine v_gett G (decAt dd_LD_load 21 rfl) f_LD_31 ?_
          refine v_geta G (decAt dd_LD_load 22 rfl) f_LD_35 ?_
          refine v_aload_n G (decAt dd_LD_load 23 rfl) rfl ?_
          refine v_geti G (decAt dd_LD_load 24 rfl) f_LD_41 ?_
          refine v_ri (y := (nI (txt pre).length)) a1 ?_
          refine v_bald G 25 (txt pre).length (decAt dd_LD_load 25 rfl) (by decide) rfl rfl (by omega) ?_
          refine v_ri (y := 74) hc0 ?_
          refine v_istore_3 G (decAt dd_LD_load 26 rfl) (by decide) rfl ?_
          refine v_iload_n G (decAt dd_LD_load 27 rfl) rfl ?_
          refine v_bipush G 48 (decAt dd_LD_load 28 rfl) (by decide) ?_
          refine v_icmp_lt G 98 (decAt dd_LD_load 29 rfl) (by decide) (fun c53 => absurd c53 (by decide)) (fun _ => ?_)
          refine v_iload_n G (decAt dd_LD_load 30 rfl) rfl ?_
          refine v_bipush G 57 (decAt dd_LD_load 31 rfl) (by decide) ?_
          refine v_icmp_gt G 98 (decAt dd_LD_load 32 rfl) (by decide) (fun _ => ?_) (fun c59 => absurd c59 (by decide))
          refine v_aload_n G (decAt dd_LD_load 51 rfl) rfl ?_
          refine v_dup G (decAt dd_LD_load 52 rfl) rfl ?_
          refine v_geti G (decAt dd_LD_load 53 rfl) f_LD_41 ?_
          refine v_ri (y := (nI (txt pre).length)) a1 ?_
          refine v_iconst G 1 (decAt dd_LD_load 54 rfl) (by decide) ?_
          refine v_iadd G (decAt dd_LD_load 55 rfl) ?_
          refine v_ri (y := (nI ((txt pre).length + 1))) (nI_1 _) ?_
          refine v_puti G (decAt dd_LD_load 56 rfl) f_LD_41 rfl rfl rfl ?_
          refine v_iload_n G (decAt dd_LD_load 57 rfl) rfl ?_
          refine v_bipush G 68 (decAt dd_LD_load 58 rfl) (by decide) ?_
          refine v_icmp_ne G 125 (decAt dd_LD_load 59 rfl) (by decide) (fun _ => ?_) (fun c111 => absurd c111 (by decide))
          refine v_aload_n G (decAt dd_LD_load 65 rfl) rfl ?_
          refine v_iload_n G (decAt dd_LD_load 66 rfl) rfl ?_
          refine v_callVvk G (As := [.int 74]) (decAt dd_LD_load 67 rfl) k_LD_61 (c_LD_ins_13 l hE (v := v) (at_ := (txt pre).length + 1) (mm := (nl pre).length) (wt := cL pre) (g := (up2 g1 5 5 (nI ((txt pre).length + 1)))) up2_self ((up2_ne (by decide)).trans a2) ((up2_ne (by decide)).trans a3) (by omega) (by have : bL 13 = 1 := rfl; omega) n26 n28 n25 hT1 (by omega)) (by decide) rfl rfl rfl (Nat.le_of_ble_eq_true rfl) (by decide) rfl rfl ⟨ug_le _, by have := ug_le (n1 27); show 326 * ug (n1 27) ≤ 652; omega⟩ ?_
          refine v_goto G 23 (decAt dd_LD_load 68 rfl) (by decide) ?_
          refine ih (pre ++ [(13, v)]) _ _ _ _ _ _ hls2 (hI0.insL rfl (by rw [up2_ne (by decide), up2_ne (by decide), up2_self, hs]; congr 1; omega) up2_self (by rw [up2_ne (by decide), up2_self]) (va_up_self _ _ _) (by rw [va_up_ne _ _ (by decide), va_up_self]) (by rw [va_up_ne _ _ (by decide), va_up_ne _ _ (by decide)])) ⟨fun k f z => ?_, fun i a b c => ?_, hF.2.2⟩
          · rw [up2_ne (by omega), up2_ne (by omega), up2_ne (by omega), up2_ne (by omega)]; exact hF.1 k f z
          · rw [va_up_ne _ _ a, va_up_ne _ _ c]; exact hF.2.1 i a b c
      · skip
        have hs : sLn 15 = 2 := rfl
        rw [hs] at hle
        have hlin : lin (15, v) = 70 :: ([76] ++ (dec v ++ [10])) := by show sbyt.getD 15 [] ++ dec v ++ [10] = _; rw [show sbyt.getD 15 [] = [70, 76] from rfl]; rfl
        rw [hlin] at hTl
        obtain ⟨hc0, hT1⟩ := TxA.cons hTl
        refine v_aload_n G (decAt dd_LD_load 14 rfl) rfl ?_
        refine v_geti G (decAt dd_LD_load 15 rfl) f_LD_41 ?_
        refine v_ri (y := (nI (txt pre).length)) a1 ?_
        refine v_aload_n G (decAt dd_LD_load 16 rfl) rfl ?_
        refine v_gett G (decAt dd_LD_load 17 rfl) f_LD_31 ?_
        refine v_geti G (decAt dd_LD_load 18 rfl) f_LD_48 ?_
        refine v_ri (y := (nI (txt ls).length)) t41 ?_
        refine v_icmp_ge G 133 (decAt dd_LD_load 19 rfl) (by decide) (fun c34 => ?_) (fun c34 => ?_)
        · skip
          exact absurd c34 (nI_ge (by have := dec_ne v; omega) (by omega))
        · skip
          refine v_aload_n G (decAt dd_LD_load 20 rfl) rfl ?_
          refine v_gett G (decAt dd_LD_load 21 rfl) f_LD_31 ?_
          refine v_geta G (decAt dd_LD_load 22 rfl) f_LD_35 ?_
          refine v_aload_n G (decAt dd_LD_load 23 rfl) rfl ?_
          refine v_geti G (decAt dd_LD_load 24 rfl) f_LD_41 ?_
          refine v_ri (y := (nI (txt pre).length)) a1 ?_
          refine v_bald G 25 (txt pre).length (decAt dd_LD_load 25 rfl) (by decide) rfl rfl (by omega) ?_
          refine v_ri (y := 70) hc0 ?_
          refine v_istore_3 G (decAt dd_LD_load 26 rfl) (by decide) rfl ?_
          refine v_iload_n G (decAt dd_LD_load 27 rfl) rfl ?_
          refine v_bipush G 48 (decAt dd_LD_load 28 rfl) (by decide) ?_
          refine v_icmp_lt G 98 (decAt dd_LD_load 29 rfl) (by decide) (fun c53 => absurd c53 (by decide)) (fun _ => ?_)
          refine v_iload_n G (decAt dd_LD_load 30 rfl) rfl ?_
          refine v_bipush G 57 (decAt dd_LD_load 31 rfl) (by decide) ?_
          refine v_icmp_gt G 98 (decAt dd_LD_load 32 rfl) (by decide) (fun _ => ?_) (fun c59 => absurd c59 (by decide))
          refine v_aload_n G (decAt dd_LD_load 51 rfl) rfl ?_
          refine v_dup G (decAt dd_LD_load 52 rfl) rfl ?_
          refine v_geti G (decAt dd_LD_load 53 rfl) f_LD_41 ?_
          refine v_ri (y := (nI (txt pre).length)) a1 ?_
          refine v_iconst G 1 (decAt dd_LD_load 54 rfl) (by decide) ?_
          refine v_iadd G (decAt dd_LD_load 55 rfl) ?_
          refine v_ri (y := (nI ((txt pre).length + 1))) (nI_1 _) ?_
          refine v_puti G (decAt dd_LD_load 56 rfl) f_LD_41 rfl rfl rfl ?_
          refine v_iload_n G (decAt dd_LD_load 57 rfl) rfl ?_
          refine v_bipush G 68 (decAt dd_LD_load 58 rfl) (by decide) ?_
          refine v_icmp_ne G 125 (decAt dd_LD_load 59 rfl) (by decide) (fun _ => ?_) (fun c111 => absurd c111 (by decide))
          refine v_aload_n G (decAt dd_LD_load 65 rfl) rfl ?_
          refine v_iload_n G (decAt dd_LD_load 66 rfl) rfl ?_
          refine v_callVvk G (As := [.int 70]) (decAt dd_LD_load 67 rfl) k_LD_61 (c_LD_ins_15 l hE (v := v) (at_ := (txt pre).length + 1) (mm := (nl pre).length) (wt := cL pre) (g := (up2 g1 5 5 (nI ((txt pre).length + 1)))) up2_self ((up2_ne (by decide)).trans a2) ((up2_ne (by decide)).trans a3) (by omega) (by have : bL 15 = 1 := rfl; omega) n26 n28 n25 hT1 (by omega)) (by decide) rfl rfl rfl (Nat.le_of_ble_eq_true rfl) (by decide) rfl rfl ⟨ug_le _, by have := ug_le (n1 27); show 326 * ug (n1 27) ≤ 652; omega⟩ ?_
          refine v_goto G 23 (decAt dd_LD_load 68 rfl) (by decide) ?_
          refine ih (pre ++ [(15, v)]) _ _ _ _ _ _ hls2 (hI0.insL rfl (by rw [up2_ne (by decide), up2_ne (by decide), up2_self, hs]; congr 1; omega) up2_self (by rw [up2_ne (by decide), up2_self]) (va_up_self _ _ _) (by rw [va_up_ne _ _ (by decide), va_up_self]) (by rw [va_up_ne _ _ (by decide), va_up_ne _ _ (by decide)])) ⟨fun k f z => ?_, fun i a b c => ?_, hF.2.2⟩
          · rw [up2_ne (by omega), up2_ne (by omega), up2_ne (by omega), up2_ne (by omega)]; exact hF.1 k f z
          · rw [va_up_ne _ _ a, va_up_ne _ _ c]; exact hF.2.1 i a b c
      · skip
        have hs : sLn 11 = 1 := rfl
        rw [hs] at hle
        have hlin : lin (11, v) = 68 :: ([] ++ (dec v ++ [10])) := by show sbyt.getD 11 [] ++ dec v ++ [10] = _; rw [show sbyt.getD 11 [] = [68] from rfl]; rfl
        rw [hlin] at hTl
        obtain ⟨hc0, hT1⟩ := TxA.cons hTl
        refine v_aload_n G (decAt dd_LD_load 14 rfl) rfl ?_
        refine v_geti G (decAt dd_LD_load 15 rfl) f_LD_41 ?_
        refine v_ri (y := (nI (txt pre).length)) a1 ?_
        refine v_aload_n G (decAt dd_LD_load 16 rfl) rfl ?_
        refine v_gett G (decAt dd_LD_load 17 rfl) f_LD_31 ?_
        refine v_geti G (decAt dd_LD_load 18 rfl) f_LD_48 ?_
        refine v_ri (y := (nI (txt ls).length)) t41 ?_
        refine v_icmp_ge G 133 (decAt dd_LD_load 19 rfl) (by decide) (fun c34 => ?_) (fun c34 => ?_)
        · skip
          exact absurd c34 (nI_ge (by have := dec_ne v; omega) (by omega))
        · skip
          refine v_aload_n G (decAt dd_LD_load 20 rfl) rfl ?_
          refine v_gett G (decAt dd_LD_load 21 rfl) f_LD_31 ?_
          refine v_geta G (decAt dd_LD_load 22 rfl) f_LD_35 ?_
          refine v_aload_n G (decAt dd_LD_load 23 rfl) rfl ?_
          refine v_geti G (decAt dd_LD_load 24 rfl) f_LD_41 ?_
          refine v_ri (y := (nI (txt pre).length)) a1 ?_
          refine v_bald G 25 (txt pre).length (decAt dd_LD_load 25 rfl) (by decide) rfl rfl (by omega) ?_
          refine v_ri (y := 68) hc0 ?_
          refine v_istore_3 G (decAt dd_LD_load 26 rfl) (by decide) rfl ?_
          refine v_iload_n G (decAt dd_LD_load 27 rfl) rfl ?_
          refine v_bipush G 48 (decAt dd_LD_load 28 rfl) (by decide) ?_
          refine v_icmp_lt G 98 (decAt dd_LD_load 29 rfl) (by decide) (fun c53 => absurd c53 (by decide)) (fun _ => ?_)
          refine v_iload_n G (decAt dd_LD_load 30 rfl) rfl ?_
          refine v_bipush G 57 (decAt dd_LD_load 31 rfl) (by decide) ?_
          refine v_icmp_gt G 98 (decAt dd_LD_load 32 rfl) (by decide) (fun _ => ?_) (fun c59 => absurd c59 (by decide))
          refine v_aload_n G (decAt dd_LD_load 51 rfl) rfl ?_
          refine v_dup G (decAt dd_LD_load 52 rfl) rfl ?_
          refine v_geti G (decAt dd_LD_load 53 rfl) f_LD_41 ?_
          refine v_ri (y := (nI (txt pre).length)) a1 ?_
          refine v_iconst G 1 (decAt dd_LD_load 54 rfl) (by decide) ?_
          refine v_iadd G (decAt dd_LD_load 55 rfl) ?_
          refine v_ri (y := (nI ((txt pre).length + 1))) (nI_1 _) ?_
          refine v_puti G (decAt dd_LD_load 56 rfl) f_LD_41 rfl rfl rfl ?_
          refine v_iload_n G (decAt dd_LD_load 57 rfl) rfl ?_
          refine v_bipush G 68 (decAt dd_LD_load 58 rfl) (by decide) ?_
          refine v_icmp_ne G 125 (decAt dd_LD_load 59 rfl) (by decide) (fun c111 => absurd c111 (by decide)) (fun _ => ?_)
          refine v_aload_n G (decAt dd_LD_load 60 rfl) rfl ?_
          refine v_aload_n G (decAt dd_LD_load 61 rfl) rfl ?_
          refine v_callVik G (As := []) (decAt dd_LD_load 62 rfl) k_LD_49 (c_LD_number l hE (v := v) (at_ := (txt pre).length + 1) (g := (up2 g1 5 5 (nI ((txt pre).length + 1)))) up2_self hT1 (by omega) n25) (by decide) rfl rfl rfl (Nat.le_of_ble_eq_true rfl) (by decide) rfl rfl ⟨ug_le _, by have := ug_le (n1 27); show 326 * ug (n1 27) ≤ 652; omega⟩ ?_
          refine v_stg (up2_up2 _ _ _ _ _) ?_
          refine v_callVvk G (As := [.int v]) (decAt dd_LD_load 63 rfl) k_LD_57 (c_LD_word l hE (w := v) (mm := (nl pre).length) ((up2_ne (by decide)).trans a2) (by omega) n26) (by decide) rfl rfl rfl (Nat.le_of_ble_eq_true rfl) (by decide) rfl rfl ⟨ug_le _, by have := ug_le (n1 27); show 326 * ug (n1 27) ≤ 652; omega⟩ ?_
          refine v_goto G 130 (decAt dd_LD_load 64 rfl) (by decide) ?_
          refine v_goto G 23 (decAt dd_LD_load 68 rfl) (by decide) ?_
          refine ih (pre ++ [(11, v)]) _ _ _ _ _ _ hls2 (hI0.ins rfl (by decide) (by rw [up2_ne (by decide), up2_self, hs]; congr 1; omega) up2_self (by rw [up2_ne (by decide), up2_ne (by decide)]) (va_up_self _ _ _) rfl (va_up_ne _ _ (by decide)) (va_up_ne _ _ (by decide))) ⟨fun k f z => ?_, fun i a b c => ?_, hF.2.2⟩
          · rw [up2_ne (by omega), up2_ne (by omega)]; exact hF.1 k f z
          · rw [va_up_ne _ _ a]; exact hF.2.1 i a b c
      · skip
        obtain ⟨j, hj, rfl⟩ := o1 (Or.inl rfl)
        have hs : sLn 14 = 0 := rfl
        rw [hs] at hle
        have hlin : lin (14, nI j) = dec (nI j) ++ [10] := rfl
        rw [hlin] at hTl
        have hdn := dec_ne (nI j)
        obtain ⟨g1', g2'⟩ := dec_dg j (by omega)
        have hc0 : A1 25 (txt pre).length = (dec (nI j)).getD 0 0 := hTl 0 _ (by rw [List.getElem?_append_left hdn, List.getD_eq_getElem?_getD, List.getElem?_eq_getElem hdn]; rfl)
        refine v_aload_n G (decAt dd_LD_load 14 rfl) rfl ?_
        refine v_geti G (decAt dd_LD_load 15 rfl) f_LD_41 ?_
        refine v_ri (y := (nI (txt pre).length)) a1 ?_
        refine v_aload_n G (decAt dd_LD_load 16 rfl) rfl ?_
        refine v_gett G (decAt dd_LD_load 17 rfl) f_LD_31 ?_
        refine v_geti G (decAt dd_LD_load 18 rfl) f_LD_48 ?_
        refine v_ri (y := (nI (txt ls).length)) t41 ?_
        refine v_icmp_ge G 133 (decAt dd_LD_load 19 rfl) (by decide) (fun c34 => ?_) (fun c34 => ?_)
        · skip
          exact absurd c34 (nI_ge (by omega) (by omega))
        · skip
          refine v_aload_n G (decAt dd_LD_load 20 rfl) rfl ?_
          refine v_gett G (decAt dd_LD_load 21 rfl) f_LD_31 ?_
          refine v_geta G (decAt dd_LD_load 22 rfl) f_LD_35 ?_
          refine v_aload_n G (decAt dd_LD_load 23 rfl) rfl ?_
          refine v_geti G (decAt dd_LD_load 24 rfl) f_LD_41 ?_
          refine v_ri (y := (nI (txt pre).length)) a1 ?_
          refine v_bald G 25 (txt pre).length (decAt dd_LD_load 25 rfl) (by decide) rfl rfl (by omega) ?_
          refine v_ri (y := ((dec (nI j)).getD 0 0)) hc0 ?_
          refine v_istore_3 G (decAt dd_LD_load 26 rfl) (by decide) rfl ?_
          refine v_iload_n G (decAt dd_LD_load 27 rfl) rfl ?_
          refine v_bipush G 48 (decAt dd_LD_load 28 rfl) (by decide) ?_
          refine v_icmp_lt G 98 (decAt dd_LD_load 29 rfl) (by decide) (fun c53 => ?_) (fun c53 => ?_)
          · skip
            exact absurd c53 g1'
          · skip
            refine v_iload_n G (decAt dd_LD_load 30 rfl) rfl ?_
            refine v_bipush G 57 (decAt dd_LD_load 31 rfl) (by decide) ?_
            refine v_icmp_gt G 98 (decAt dd_LD_load 32 rfl) (by decide) (fun c59 => ?_) (fun c59 => ?_)
            · skip
              exact absurd c59 g2'
            · skip
              refine v_aload_n G (decAt dd_LD_load 33 rfl) rfl ?_
              refine v_callVik G (As := []) (decAt dd_LD_load 34 rfl) k_LD_49 (c_LD_number l hE (v := nI j) (at_ := (txt pre).length) (g := g1) a1 hTl (by omega) n25) (by decide) rfl rfl rfl (Nat.le_of_ble_eq_true rfl) (by decide) rfl rfl ⟨ug_le _, by have := ug_le (n1 27); show 326 * ug (n1 27) ≤ 652; omega⟩ ?_
              refine v_istore_4 G (decAt dd_LD_load 35 rfl) (by decide) rfl ?_
              refine v_aload_n G (decAt dd_LD_load 36 rfl) rfl ?_
              refine v_aload_n G (decAt dd_LD_load 37 rfl) rfl ?_
              refine v_geta G (decAt dd_LD_load 38 rfl) f_LD_15 ?_
              refine v_iload G (decAt dd_LD_load 39 rfl) rfl ?_
              by_cases hjn : j < n1 27
              · skip
                refine v_callSx G (As := [.ref (ρ1 27), .int (nI j)]) (decAt dd_LD_load 40 rfl) k_LD_53 (c_LD_longer_s l hE (i := 27) (k := j) (by decide) rfl (by omega) (by omega)) rfl rfl (Nat.le_of_ble_eq_true rfl) (by decide) ⟨by have := ug_le (n1 27); exact this, by have := ug_le (n1 27); show 326 * ug (n1 27) + 0 ≤ 652; omega⟩ ?_
                rintro r9 ρ9 g9 A9 n9 tx9 ⟨rfl, e1, e2, e3, e4, e5⟩
                replace e1 := e1.symm; subst e1; replace e2 := e2.symm; subst e2; replace e3 := e3.symm; subst e3; replace e4 := e4.symm; subst e4; replace e5 := e5.symm; subst e5
                refine v_puta G (decAt dd_LD_load 41 rfl) f_LD_15 rfl rfl rfl ?_
                refine v_aload_n G (decAt dd_LD_load 42 rfl) rfl ?_
                refine v_geta G (decAt dd_LD_load 43 rfl) f_LD_15 ?_
                refine v_iload G (decAt dd_LD_load 44 rfl) rfl ?_
                refine v_ldc G (decAt dd_LD_load 45 rfl) tm_549 ?_
                refine v_aload_n G (decAt dd_LD_load 46 rfl) rfl ?_
                refine v_geti G (decAt dd_LD_load 47 rfl) f_LD_21 ?_
                refine v_ri (y := (nI (nl pre).length)) ((up2_ne (by decide)).trans a2) ?_
                refine v_iadd G (decAt dd_LD_load 48 rfl) ?_
                refine v_ri (y := (nI (65536 + (nl pre).length))) (nI_add 65536 _) ?_
                refine v_iast G 27 j (decAt dd_LD_load 49 rfl) (by decide) rfl rfl (by omega) ?_
                refine v_goto G 130 (decAt dd_LD_load 50 rfl) (by decide) ?_
                refine v_goto G 23 (decAt dd_LD_load 68 rfl) (by decide) ?_
                refine ih (pre ++ [(14, nI j)]) _ _ _ _ _ _ hls2 (hI0.lab hj (by rw [up2_self]; congr 1) (up2_ne (by decide)) (up2_ne (by decide)) (va_up_ne _ _ (by decide)) (va_up_ne _ _ (by decide)) (va_up_self _ _ _) (fun x hx => rfl) (Nat.le_refl _) hjn a8) ⟨fun k f z => ?_, fun i a b c => ?_, hF.2.2⟩
                · rw [up2_ne (by omega)]; exact hF.1 k f z
                · rw [va_up_ne _ _ b]; exact hF.2.1 i a b c
              · skip
                have hu1 := ug_1 (N := n1 27) (by omega)
                refine v_callSx G (As := [.ref (ρ1 27), .int (nI j)]) (decAt dd_LD_load 40 rfl) k_LD_53 (c_LD_longer_g l hE (i := 27) (k := j) (by decide) rfl (by omega) (by omega)) rfl rfl (Nat.le_of_ble_eq_true rfl) ⟨Nat.le_of_ble_eq_true rfl, Nat.le_of_ble_eq_true rfl⟩ ⟨by show ug (n1 27) + 1 ≤ 2; omega, by show 326 * ug (n1 27) + 2 * j ≤ 652; omega⟩ ?_
                rintro r9 ρ9 g9 A9 n9 tx9 ⟨q9, rfl, rfl, e2, rfl, rfl, e5⟩
                replace e2 := e2.symm; subst e2; replace e5 := e5.symm; subst e5
                refine v_S (S' := [.ref ((va_up ρ1 40 q9) 40), .ref (E.o 5)]) (by rw [va_up_self]; rfl) ?_
                refine v_swap G 40 (decAt dd_LD_load 41 rfl) f_LD_15 rfl rfl rfl (Or.inl (by decide)) (Or.inr rfl) rfl (by decide +kernel) ?_
                refine v_drop (DA' := AC) (fun i hi => Or.inl hi) ?_
                have key : ∀ {α : Type} (w : Nat → α) (z : α) (x : Nat), x ≠ 40 → va_up w 27 z x = swp (va_up w 40 z) 27 40 x := by
                  intro α w z x hx
                  by_cases e1 : x = 27
                  · subst e1; rw [va_up_self]; simp [swp, va_up_self]
                  · rw [va_up_ne _ _ e1]; simp [swp, e1, hx]; rw [va_up_ne _ _ hx]
                refine v_tmp 40 (by decide) kd40 (key ρ1 q9) (key A1 _) (key n1 (2 * j)) ?_
                refine v_room (ug (2 * j)) (326 * ug (2 * j)) (by have := ug_s a7 (Nat.not_lt.mp hjn) hj; exact this) (by have := ug_s a7 (Nat.not_lt.mp hjn) hj; show 326 * ug (n1 27) + 2 * j ≤ _; omega) ?_
                refine v_aload_n G (decAt dd_LD_load 42 rfl) rfl ?_
                refine v_geta G (decAt dd_LD_load 43 rfl) f_LD_15 ?_
                refine v_iload G (decAt dd_LD_load 44 rfl) rfl ?_
                refine v_ldc G (decAt dd_LD_load 45 rfl) tm_549 ?_
                refine v_aload_n G (decAt dd_LD_load 46 rfl) rfl ?_
                refine v_geti G (decAt dd_LD_load 47 rfl) f_LD_21 ?_
                refine v_ri (y := (nI (nl pre).length)) ((up2_ne (by decide)).trans a2) ?_
                refine v_iadd G (decAt dd_LD_load 48 rfl) ?_
                refine v_ri (y := (nI (65536 + (nl pre).length))) (nI_add 65536 _) ?_
                refine v_iast G 27 j (decAt dd_LD_load 49 rfl) (by decide) rfl rfl (by rw [va_up_self]; omega) ?_
                refine v_goto G 130 (decAt dd_LD_load 50 rfl) (by decide) ?_
                refine v_goto G 23 (decAt dd_LD_load 68 rfl) (by decide) ?_
                refine v_room (ug ((va_up n1 27 (2 * j)) 27)) (326 * ug ((va_up n1 27 (2 * j)) 27)) (by rw [va_up_self]; exact Nat.le_refl _) (by rw [va_up_self]; exact Nat.le_refl _) ?_
                refine ih (pre ++ [(14, nI j)]) _ _ _ _ _ _ hls2 (hI0.lab hj (by rw [up2_self]; congr 1) (up2_ne (by decide)) (up2_ne (by decide)) (by rw [va_up_ne _ _ (by decide), va_up_ne _ _ (by decide)]) (by rw [va_up_ne _ _ (by decide), va_up_ne _ _ (by decide)]) (by rw [va_up_self, va_up_self]) (fun x hx => by unfold va_cpy; rw [if_pos (by omega)]; congr 1; omega) (by rw [va_up_self]; omega) (by rw [va_up_self]; omega) (by rw [va_up_self]; omega)) ⟨fun k f z => ?_, fun i a b c => ?_, fun i a => ?_⟩
                · rw [up2_ne (by omega)]; exact hF.1 k f z
                · rw [va_up_ne _ _ b, va_up_ne _ _ b]; exact hF.2.1 i a b c
                · rw [va_up_ne _ _ a]; exact hF.2.2 i a
  refine v_aload_n G (decAt dd_LD_load 0 rfl) rfl ?_
  refine v_aload_n G (decAt dd_LD_load 1 rfl) rfl ?_
  refine v_putt G (decAt dd_LD_load 2 rfl) f_LD_31 rfl rfl rfl (fun k' j h1 h2 => (by decide +kernel : ∀ k', k' < 7 → ∀ j, j < 24 → kd k' j = 60 → k' = 5 ∧ j = 6) k' h1 j h2) (by decide) (by decide) ?_
  refine v_aload_n G (decAt dd_LD_load 3 rfl) rfl ?_
  refine v_iconst G 0 (decAt dd_LD_load 4 rfl) (by decide) ?_
  refine v_puti G (decAt dd_LD_load 5 rfl) f_LD_41 rfl rfl rfl ?_
  refine v_aload_n G (decAt dd_LD_load 6 rfl) rfl ?_
  refine v_iconst G 0 (decAt dd_LD_load 7 rfl) (by decide) ?_
  refine v_puti G (decAt dd_LD_load 8 rfl) f_LD_44 rfl rfl rfl ?_
  refine v_ldc G (decAt dd_LD_load 9 rfl) tm_549 ?_
  refine v_aload_n G (decAt dd_LD_load 10 rfl) rfl ?_
  refine v_geti G (decAt dd_LD_load 11 rfl) f_LD_21 ?_
  refine v_ri (y := (nI 0)) (by simp only [up2]; exact hm0) ?_
  refine v_iadd G (decAt dd_LD_load 12 rfl) ?_
  refine v_ri (y := 65536) (by decide) ?_
  refine v_istore_2 G (decAt dd_LD_load 13 rfl) (by decide) rfl ?_
  refine v_room (ug (n 27)) (326 * ug (n 27)) (Nat.zero_le _) (Nat.zero_le _) ?_
  refine J23 ls [] _ _ _ _ _ _ rfl ⟨?_, ?_, ?_, fun p x h => (by cases h), fun j p h => (by cases h), fun j p _ h => (by cases h), h27, h27'⟩ ⟨fun k f z => ?_, fun _ _ _ _ => rfl, fun _ _ => rfl⟩
  · rw [up2_ne (by decide), up2_self]; rfl
  · rw [up2_ne (by decide), up2_ne (by decide)]; exact hm0
  · rw [up2_self]; rfl
  · rw [up2_ne (by omega), up2_ne (by omega)]
