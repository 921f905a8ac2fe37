/-! rows of V over the system's picture -/
theorem sw_inj {i t : Nat} (hti : t ≠ i) (x y : Nat) (h : (if x = i then t else if x = t then i else x) = (if y = i then t else if y = t then i else y)) : x = y := by
  split at h
  · split at h
    · omega
    · split at h <;> omega
  · split at h
    · split at h
      · omega
      · split at h <;> omega
    · split at h
      · omega
      · split at h <;> omega
def swp {α : Type} (f : Nat → α) (i j : Nat) : Nat → α := fun x => if x = i then f j else if x = j then f i else f x
section VH
variable {E : Bs} {p : Program} {l : Launch} {e : Env} {R : Room} {s : State} {m : MethodId} {args : Array Value} {below : List Frame} {meth : Method} {c : Code} {cc : ByteArray} {own : String} {nL : Nat} {ret : Option FieldType} {X : Heap → List Loc → Prop} {cells slots : Nat} {Q : State → Prop} {pc : Nat} {L : List (Option Value)} {S : List Value}
variable {DO DA : Nat → Prop} {ρ : Nat → Nat} {g A : Nat → Nat → Int32} {n : Nat → Nat} {tx : Value} {H H1 H0 : Heap} {locs : List Loc} {ls : Array Slot}
theorem gw (G : Gd E p s m args meth c cc own nL ret) {w : Cond} (h : w ∈ lw_tbl) (hk : goodWord w = true) : w.before args s = true := by
  obtain ⟨-, -, -, -, -, -, ⟨⟨a0, h0, -⟩, -⟩, hW, -⟩ := G
  exact word_at hW (good_of_word hk) (h0 w h)
theorem gK (G : Gd E p s m args meth c cc own nL ret) : va_K (E.dC, E.dI) classes (tyL E) s := by
  obtain ⟨-, -, -, -, -, -, ⟨-, hK, -⟩, hW, -⟩ := G
  exact va_K.moved hW.alike hK
theorem gown (G : Gd E p s m args meth c cc own nL ret) : s.vm.findClass own = some m.cls := G.2.2.2.1
theorem gml (G : Gd E p s m args meth c cc own nL ret) : c.maxLocals = nL := G.2.2.1
theorem gr (G : Gd E p s m args meth c cc own nL ret) : meth.sig.returnType = ret := G.2.2.2.2.1
theorem glk (G : Gd E p s m args meth c cc own nL ret) : meth.locks = false := G.2.2.2.2.2.1
theorem gH (G : Gd E p s m args meth c cc own nL ret) : Hb E := G.2.2.2.2.2.2.1
theorem gW (G : Gd E p s m args meth c cc own nL ret) : E.S.WarmedH s.vm := G.2.2.2.2.2.2.2.1
theorem gB (G : Gd E p s m args meth c cc own nL ret) : Bel E s.heap := G.2.2.2.2.2.2.2.2.1
theorem gF (G : Gd E p s m args meth c cc own nL ret) : ∀ q, s.heap.size ≤ q → E.F q := G.2.2.2.2.2.2.2.2.2
theorem glay (G : Gd E p s m args meth c cc own nL ret) {k : Nat} (hk : k < 7) : ∀ w ∈ u_ws (CN k) (FT k) (NF k), w.before args s = true := by
  intro w hw
  refine gw G (lay_in k hk w hw) ?_
  obtain ⟨j, -, rfl⟩ := List.mem_map.mp hw
  unfold u_lay
  split <;> rfl
theorem gFo (G : Gd E p s m args meth c cc own nL ret) {q : Nat} (h : q < E.S.heap.size) : ¬ E.F q := fun z => absurd ((gH G).2.2.1 q z) (by omega)
theorem Sy.bel (G : Gd E p s m args meth c cc own nL ret) (h : Sy E DO DA s.heap ρ g A n tx H locs) : Bel E H := by
  obtain ⟨-, h1, h2, -⟩ := h
  refine ⟨fun q hq => ?_, Nat.le_trans (gB G).2 h1⟩
  rw [h2 q (Nat.lt_of_lt_of_le hq (gB G).2) (gFo G hq)]
  exact (gB G).1 q hq
theorem fld_i {o : Nat → Nat} {k f : Nat} (h : kd k f = 0) : fld o ρ g tx k f = .int (g k f) := by simp [fld, h]
theorem fld_a {o : Nat → Nat} {k f i : Nat} (h : kd k f = i + 1) (hi : i + 1 < 50) : fld o ρ g tx k f = .ref (ρ i) := by simp [fld, h, hi]
theorem fld_o {o : Nat → Nat} {k f j : Nat} (h : kd k f = 50 + j) (hj : j < 10) : fld o ρ g tx k f = .ref (o j) := by
  have h1 : ¬ (50 + j = 0) := by omega
  have h2 : ¬ (50 + j < 50) := by omega
  have h3 : 50 + j < 60 := by omega
  have h4 : 50 + j - 50 = j := by omega
  simp [fld, h, h1, h2, h3]
theorem fld_t {o : Nat → Nat} {k f : Nat} (h : kd k f = 60) : fld o ρ g tx k f = tx := by simp [fld, h]
theorem fld_up2 {o : Nat → Nat} {k f : Nat} {v : Int32} (h : kd k f = 0) (k' j : Nat) : fld o ρ (up2 g k f v) tx k' j = if k' = k ∧ j = f then .int v else fld o ρ g tx k' j := by
  by_cases hc : k' = k ∧ j = f
  · obtain ⟨rfl, rfl⟩ := hc
    simp [fld, h, up2]
  · simp [fld, up2, hc]
theorem w_get (G : Gd E p s m args meth c cc own nL ret) {k f idx a : Nat} {Vf : Nat → Value} (hk : k < 7) (hf : f < NF k) (hw : Cond.fieldLink own idx (FT k f).1 (FT k f).2.1 (FT k f).2.2.1 ∈ lw_tbl) (hO : t_OB a (E.dC k) (NF k) (E.dI k) H Vf) (d : decode cc pc = .ok (.getfield idx, 3))
    (kk : W p l e R s m args below meth c H locs cells slots Q (F0 m (pc + 3) ls (Vf f :: S))) : W p l e R s m args below meth c H locs cells slots Q (F0 m pc ls (.ref a :: S)) := by
  obtain ⟨cell, q1, q2, q3, q4⟩ := hO
  obtain ⟨hS, hfc, kC, hkC, hkind⟩ := (gK G).1 k _ (cls_at k hk)
  obtain ⟨cf, kf, fi, fd, hi, hsl⟩ := hS f hf
  refine W.getf G.1 G.2.1 (gown G) (gw G hw rfl) hi (u_facts hfc hkC (u_lays (glay G hk) (fun _ h => h) hf) hi).1 q1 (by rw [q3]; exact fun h => by cases h) (v := Vf f) ?_ rfl rfl d kk
  rw [hsl, q4 f hf]
theorem w_put (G : Gd E p s m args meth c cc own nL ret) {k f idx a : Nat} {Vf : Nat → Value} {v : Value} (hk : k < 7) (hf : f < NF k) (hnf : (FT k f).2.2.2 = false) (hw : Cond.fieldLink own idx (FT k f).1 (FT k f).2.1 (FT k f).2.2.1 ∈ lw_tbl) (hO : t_OB a (E.dC k) (NF k) (E.dI k) H Vf) (hn : narrow (TY k f) v = v) (hfit : fits (TY k f) v = true) (d : decode cc pc = .ok (.putfield idx, 3))
    (kk : ∀ (H' : Heap) (i : Nat), t_OB a (E.dC k) (NF k) (E.dI k) H' (fun j => if j = f then v else Vf j) → H'.size = H.size → (∀ q, q ≠ a → H'[q]? = H[q]?) → W p l e R s m args below meth c H' (locs ++ [⟨a, i⟩]) cells slots Q (F0 m (pc + 3) ls S)) : W p l e R s m args below meth c H locs cells slots Q (F0 m pc ls (v :: .ref a :: S)) := by
  have hap := va_apart (own := own) (glay G hk) (fun _ h => h) (TY k) (ty_ok k hk) (nm_ok k hk) (gK G) (cls_at k hk)
  obtain ⟨cell, q1, q2, q3, q4⟩ := hO
  obtain ⟨hS, hfc, kC, hkC, hkind⟩ := (gK G).1 k _ (cls_at k hk)
  obtain ⟨cf, kf, fi, fd, hi, hsl⟩ := hS f hf
  have hlay := glay G hk _ (u_in_lay hf)
  unfold u_lay at hlay
  rw [if_neg (by rw [hnf]; decide)] at hlay
  have hst := (u_facts hfc hkC (u_lays (glay G hk) (fun _ h => h) hf) hi).1
  have h6 := u_store hfc hkC hkind hlay hi (ty_ok k hk f hf) hn hfit
  refine W.putK G.1 G.2.1 (f := fd) ⟨gown G, gw G hw rfl, ⟨_, _, _, hi⟩, hst⟩ (by rw [q2]; exact h6) q1 q3 (by rw [hsl]; exact k2_hasslot (q4 f hf)) rfl rfl d fun H' e1 e2 e3 => ?_
  rw [hsl] at e1 ⊢
  exact kk H' _ ⟨_, e1, q2, q3, t_set q4 hap hf v⟩ e2 e3
def FI (DO : Nat → Prop) (own : String) (idx k f : Nat) : Prop := Cond.fieldLink own idx (FT k f).1 (FT k f).2.1 (FT k f).2.2.1 ∈ lw_tbl ∧ f < NF k ∧ kd k f = 0 ∧ DO k
def FA (DO : Nat → Prop) (own : String) (idx k f i : Nat) : Prop := Cond.fieldLink own idx (FT k f).1 (FT k f).2.1 (FT k f).2.2.1 ∈ lw_tbl ∧ f < NF k ∧ kd k f = i + 1 ∧ i + 1 < 50 ∧ DO k
def FO (DO : Nat → Prop) (own : String) (idx k f j : Nat) : Prop := Cond.fieldLink own idx (FT k f).1 (FT k f).2.1 (FT k f).2.2.1 ∈ lw_tbl ∧ f < NF k ∧ kd k f = 50 + j ∧ j < 10 ∧ DO k
def FX (DO : Nat → Prop) (own : String) (idx k f : Nat) : Prop := Cond.fieldLink own idx (FT k f).1 (FT k f).2.1 (FT k f).2.2.1 ∈ lw_tbl ∧ f < NF k ∧ kd k f = 60 ∧ DO k
theorem v_geti (G : Gd E p s m args meth c cc own nL ret) {idx k f : Nat} (d : decode cc pc = .ok (.getfield idx, 3)) (h : FI DO own idx k f) (kk : V p l e R s m args below meth c nL (Sy E DO DA H0 ρ g A n tx) cells slots Q (pc + 3) L (.int (g k f) :: S)) : V p l e R s m args below meth c nL (Sy E DO DA H0 ρ g A n tx) cells slots Q pc L (.ref (E.o k) :: S) := by
  intro H locs ls hX hl
  obtain ⟨h1, h2, h3, h4⟩ := h
  obtain ⟨hk, hO, -⟩ := hX.1.1 k h4
  refine w_get G hk h2 h1 hO d ?_
  rw [fld_i h3]
  exact kk H locs ls hX hl
theorem v_geta (G : Gd E p s m args meth c cc own nL ret) {idx k f i : Nat} (d : decode cc pc = .ok (.getfield idx, 3)) (h : FA DO own idx k f i) (kk : V p l e R s m args below meth c nL (Sy E DO DA H0 ρ g A n tx) cells slots Q (pc + 3) L (.ref (ρ i) :: S)) : V p l e R s m args below meth c nL (Sy E DO DA H0 ρ g A n tx) cells slots Q pc L (.ref (E.o k) :: S) := by
  intro H locs ls hX hl
  obtain ⟨h1, h2, h3, h5, h4⟩ := h
  obtain ⟨hk, hO, -⟩ := hX.1.1 k h4
  refine w_get G hk h2 h1 hO d ?_
  rw [fld_a h3 h5]
  exact kk H locs ls hX hl
theorem v_geto (G : Gd E p s m args meth c cc own nL ret) {idx k f j : Nat} (d : decode cc pc = .ok (.getfield idx, 3)) (h : FO DO own idx k f j) (kk : V p l e R s m args below meth c nL (Sy E DO DA H0 ρ g A n tx) cells slots Q (pc + 3) L (.ref (E.o j) :: S)) : V p l e R s m args below meth c nL (Sy E DO DA H0 ρ g A n tx) cells slots Q pc L (.ref (E.o k) :: S) := by
  intro H locs ls hX hl
  obtain ⟨h1, h2, h3, h5, h4⟩ := h
  obtain ⟨hk, hO, -⟩ := hX.1.1 k h4
  refine w_get G hk h2 h1 hO d ?_
  rw [fld_o h3 h5]
  exact kk H locs ls hX hl
theorem v_gett (G : Gd E p s m args meth c cc own nL ret) {idx k f : Nat} (d : decode cc pc = .ok (.getfield idx, 3)) (h : FX DO own idx k f) (kk : V p l e R s m args below meth c nL (Sy E DO DA H0 ρ g A n tx) cells slots Q (pc + 3) L (tx :: S)) : V p l e R s m args below meth c nL (Sy E DO DA H0 ρ g A n tx) cells slots Q pc L (.ref (E.o k) :: S) := by
  intro H locs ls hX hl
  obtain ⟨h1, h2, h3, h4⟩ := h
  obtain ⟨hk, hO, -⟩ := hX.1.1 k h4
  refine w_get G hk h2 h1 hO d ?_
  rw [fld_t h3]
  exact kk H locs ls hX hl
/-- an object's field has been written: the picture behind it -/
theorem Wd.obj {k : Nat} {g' : Nat → Nat → Int32} {tx' : Value} (h : Wd E DO DA ρ g A n tx H) (hk : DO k) (hO : t_OB (E.o k) (E.dC k) (NF k) (E.dI k) H1 (fld E.o ρ g' tx' k)) (hq : ∀ q, q ≠ E.o k → H1[q]? = H[q]?) (hg : ∀ k', k' ≠ k → ∀ j, fld E.o ρ g' tx' k' j = fld E.o ρ g tx k' j) : Wd E DO DA ρ g' A n tx' H1 := by
  obtain ⟨h1, h2, h3, h4, h5⟩ := h
  refine ⟨fun k' hk' => ?_, fun i hi => ?_, h3, h4, h5⟩
  · by_cases e : k' = k
    · subst e
      exact ⟨(h1 k' hk').1, hO, (h1 k' hk').2.2⟩
    · refine ⟨(h1 k' hk').1, ((h1 k' hk').2.1.kept (hq _ fun z => e (h3 _ _ hk' hk z))).to fun j _ => (hg k' e j).symm, (h1 k' hk').2.2⟩
  · exact ⟨by rw [hq _ fun z => h5 k i hk hi z.symm]; exact (h2 i hi).1, (h2 i hi).2⟩
theorem v_puti (G : Gd E p s m args meth c cc own nL ret) {idx k f : Nat} {v : Int32} (d : decode cc pc = .ok (.putfield idx, 3)) (h : FI DO own idx k f) (hnf : (FT k f).2.2.2 = false) (hn : narrow (TY k f) (.int v) = .int v) (hfit : fits (TY k f) (.int v) = true) (kk : V p l e R s m args below meth c nL (Sy E DO DA H0 ρ (up2 g k f v) A n tx) cells slots Q (pc + 3) L S) : V p l e R s m args below meth c nL (Sy E DO DA H0 ρ g A n tx) cells slots Q pc L (.int v :: .ref (E.o k) :: S) := by
  intro H locs ls hX hl
  obtain ⟨h1, h2, h3, h4⟩ := h
  obtain ⟨hk, hO, hFk⟩ := hX.1.1 k h4
  refine w_put G hk h2 hnf h1 hO hn hfit d fun H' i hO' hz hq => kk H' _ ls ⟨hX.1.obj h4 (hO'.to fun j _ => ?_) hq fun k' hk' j => ?_, hX.2.put hz hq hFk⟩ hl
  · rw [fld_up2 h3]
    simp
  · rw [fld_up2 h3, if_neg (fun z => hk' z.1)]
theorem v_putt (G : Gd E p s m args meth c cc own nL ret) {idx k f a : Nat} (d : decode cc pc = .ok (.putfield idx, 3)) (h : FX DO own idx k f) (hnf : (FT k f).2.2.2 = false) (hn : narrow (TY k f) (.ref a) = .ref a) (hfit : fits (TY k f) (.ref a) = true) (hu : ∀ k' j, k' < 7 → j < 24 → kd k' j = 60 → k' = k ∧ j = f) (hN : NF k ≤ 24) (hN' : ∀ k', k' < 7 → NF k' ≤ 24) (kk : V p l e R s m args below meth c nL (Sy E DO DA H0 ρ g A n (.ref a)) cells slots Q (pc + 3) L S) : V p l e R s m args below meth c nL (Sy E DO DA H0 ρ g A n tx) cells slots Q pc L (.ref a :: .ref (E.o k) :: S) := by
  intro H locs ls hX hl
  obtain ⟨h1, h2, h3, h4⟩ := h
  obtain ⟨hk, hO, hFk⟩ := hX.1.1 k h4
  have key : ∀ k' j, kd k' j ≠ 60 → fld E.o ρ g (.ref a) k' j = fld E.o ρ g tx k' j := by
    intro k' j hne
    unfold fld
    by_cases e0 : kd k' j = 0
    · simp [e0]
    · by_cases e1 : kd k' j < 50
      · simp [e0, e1]
      · by_cases e2 : kd k' j < 60
        · simp [e0, e1, e2]
        · exfalso
          have : ∀ k' j, kd k' j ≤ 60 := by
            intro k' j
            by_cases hk' : k' < 7
            · by_cases hj : j < 24
              · have : ∀ k', k' < 7 → ∀ j, j < 24 → kd k' j ≤ 60 := by decide +kernel
                exact this k' hk' j hj
              · have hl : ∀ k', k' < 7 → (kdL.getD k' []).length ≤ 24 := by decide +kernel
                have : kd k' j = 0 := by
                  unfold kd
                  rw [List.getD_eq_getElem?_getD, List.getElem?_eq_none (by have := hl k' hk'; omega)]
                  rfl
                omega
            · have : kd k' j = 0 := by
                unfold kd
                rw [List.getD_eq_getElem?_getD (l := kdL), List.getElem?_eq_none (by show 7 ≤ k'; omega)]
                simp
              omega
          have := this k' j
          omega
  refine w_put G hk h2 hnf h1 hO hn hfit d fun H' i hO' hz hq => kk H' _ ls ⟨?_, hX.2.put hz hq hFk⟩ hl
  obtain ⟨g1, g2, g3, g4, g5⟩ := hX.1
  refine ⟨fun k' hk' => ?_, fun i hi => ?_, g3, g4, g5⟩
  · by_cases e : k' = k
    · subst e
      refine ⟨hk, hO'.to fun j hj => ?_, (g1 k' hk').2.2⟩
      by_cases ej : j = f
      · subst ej
        simp [fld_t h3]
      · rw [if_neg ej, key k' j (fun z => ej (hu k' j hk (Nat.lt_of_lt_of_le hj hN) z).2)]
    · refine ⟨(g1 k' hk').1, ((g1 k' hk').2.1.kept (hq _ fun z => e (g3 _ _ hk' h4 z))).to fun j hj => (key k' j (fun z => e (hu k' j (g1 k' hk').1 (Nat.lt_of_lt_of_le hj (hN' k' (g1 k' hk').1)) z).1)).symm, (g1 k' hk').2.2⟩
  · exact ⟨by rw [hq _ fun z => g5 k i h4 hi z.symm]; exact (g2 i hi).1, (g2 i hi).2⟩
-- arrays
theorem gArr (G : Gd E p s m args meth c cc own nL ret) (t : Nat) (ht : t < 4) : ArrOfT s (E.cA t) (aty t) ∧ va_RA s (E.cA t) (aty t) := by
  have h := (gK G).2
  rcases (show t = 0 ∨ t = 1 ∨ t = 2 ∨ t = 3 by omega) with rfl | rfl | rfl | rfl
  · exact h 0 _ rfl
  · exact h 1 _ rfl
  · exact h 2 _ rfl
  · exact h 3 _ rfl
theorem in_nI {j N : Nat} (h : j < N) (hN : N < 2147483648) : ¬ ((nI j) < 0 ∨ N ≤ (nI j).toNatClampNeg) := nI_in h hN
theorem v_iald (G : Gd E p s m args meth c cc own nL ret) (i j : Nat) {x : Int32} (d : decode cc pc = .ok (.iaload, 1)) (hD : DA i) (ht : ta i = 0) (hj : x = nI j) (hlt : j < n i) (kk : V p l e R s m args below meth c nL (Sy E DO DA H0 ρ g A n tx) cells slots Q (pc + 1) L (.int (A i j) :: S)) : V p l e R s m args below meth c nL (Sy E DO DA H0 ρ g A n tx) cells slots Q pc L (.int x :: .ref (ρ i) :: S) := by
  intro H locs ls hX hl
  subst hj
  obtain ⟨h1, -, h3⟩ := hX.1.2.1 i hD
  rw [ht] at h1
  exact W.iald (v := .int (A i j)) G.1 G.2.1 h1 ((gArr G 0 (by omega)).1 (n i) (fun j => .int (A i j))) (fun q => by cases q) (by rw [arrV_size]; exact in_nI hlt h3) (by rw [nI_clamp (by omega), arrV_read _ _ hlt]) rfl rfl d (kk H locs ls hX hl)
theorem v_bald (G : Gd E p s m args meth c cc own nL ret) (i j : Nat) {x : Int32} (d : decode cc pc = .ok (.baload, 1)) (hD : DA i) (ht : ta i = 1) (hj : x = nI j) (hlt : j < n i) (kk : V p l e R s m args below meth c nL (Sy E DO DA H0 ρ g A n tx) cells slots Q (pc + 1) L (.int (A i j) :: S)) : V p l e R s m args below meth c nL (Sy E DO DA H0 ρ g A n tx) cells slots Q pc L (.int x :: .ref (ρ i) :: S) := by
  intro H locs ls hX hl
  subst hj
  obtain ⟨h1, -, h3⟩ := hX.1.2.1 i hD
  rw [ht] at h1
  exact W.bald (v := .int (A i j)) G.1 G.2.1 h1 ((gArr G 1 (by omega)).1 (n i) (fun j => .int (A i j))) (fun q => by cases q) (by rw [arrV_size]; exact in_nI hlt h3) (by rw [nI_clamp (by omega), arrV_read _ _ hlt]) rfl rfl d (kk H locs ls hX hl)
theorem v_zald (G : Gd E p s m args meth c cc own nL ret) (i j : Nat) {x : Int32} (d : decode cc pc = .ok (.baload, 1)) (hD : DA i) (ht : ta i = 2) (hj : x = nI j) (hlt : j < n i) (kk : V p l e R s m args below meth c nL (Sy E DO DA H0 ρ g A n tx) cells slots Q (pc + 1) L (.int (A i j) :: S)) : V p l e R s m args below meth c nL (Sy E DO DA H0 ρ g A n tx) cells slots Q pc L (.int x :: .ref (ρ i) :: S) := by
  intro H locs ls hX hl
  subst hj
  obtain ⟨h1, -, h3⟩ := hX.1.2.1 i hD
  rw [ht] at h1
  exact W.zald (v := .int (A i j)) G.1 G.2.1 h1 ((gArr G 2 (by omega)).1 (n i) (fun j => .int (A i j))) (fun q => by cases q) (by rw [arrV_size]; exact in_nI hlt h3) (by rw [nI_clamp (by omega), arrV_read _ _ hlt]) rfl rfl d (kk H locs ls hX hl)
theorem v_alen (G : Gd E p s m args meth c cc own nL ret) (i : Nat) (d : decode cc pc = .ok (.arraylength, 1)) (hD : DA i) (kk : V p l e R s m args below meth c nL (Sy E DO DA H0 ρ g A n tx) cells slots Q (pc + 1) L (.int (nI (n i)) :: S)) : V p l e R s m args below meth c nL (Sy E DO DA H0 ρ g A n tx) cells slots Q pc L (.ref (ρ i) :: S) := by
  intro H locs ls hX hl
  obtain ⟨h1, -, h3⟩ := hX.1.2.1 i hD
  have := ta_lt i
  exact W.alen (n := nI (n i)) G.1 G.2.1 h1 ((gArr G (ta i) (by omega)).1 (n i) (fun j => .int (A i j))) (by rw [arrV_size]; rfl) rfl rfl d (kk H locs ls hX hl)
/-- an array's cell has been written: the picture behind it -/
theorem Wd.arr {i : Nat} {f' : Nat → Int32} (h : Wd E DO DA ρ g A n tx H) (hi : DA i) (hA : H1[ρ i]? = some (arrV (E.cA (ta i)) (n i) (fun j => .int (f' j)))) (hq : ∀ q, q ≠ ρ i → H1[q]? = H[q]?) : Wd E DO DA ρ g (va_up A i f') n tx H1 := by
  obtain ⟨h1, h2, h3, h4, h5⟩ := h
  refine ⟨fun k hk => ?_, fun j hj => ?_, h3, h4, h5⟩
  · exact ⟨(h1 k hk).1, (h1 k hk).2.1.kept (hq _ (h5 k i hk hi)), (h1 k hk).2.2⟩
  · by_cases e : j = i
    · subst e
      exact ⟨by rw [va_up_self]; exact hA, (h2 j hj).2⟩
    · exact ⟨by rw [va_up_ne _ _ e, hq _ fun z => e (h4 _ _ hj hi z)]; exact (h2 j hj).1, (h2 j hj).2⟩
theorem ar_set {cI : ClassId} {N j : Nat} {f : Nat → Int32} {x : Int32} : (arrV cI N (fun j => .int (f j))).setSlot j (.int x) = arrV cI N (fun i => .int (va_up f j x i)) := by
  rw [arrV_store]
  congr 1
  funext q
  by_cases hq : q = j
  · subst hq
    simp [updV, va_up]
  · simp [updV, va_up, hq]
theorem v_iast (G : Gd E p s m args meth c cc own nL ret) (i j : Nat) {x y : Int32} (d : decode cc pc = .ok (.iastore, 1)) (hD : DA i) (ht : ta i = 0) (hj : x = nI j) (hlt : j < n i) (kk : V p l e R s m args below meth c nL (Sy E DO DA H0 ρ g (va_up A i (va_up (A i) j y)) n tx) cells slots Q (pc + 1) L S) : V p l e R s m args below meth c nL (Sy E DO DA H0 ρ g A n tx) cells slots Q pc L (.int y :: .int x :: .ref (ρ i) :: S) := by
  intro H locs ls hX hl
  subst hj
  obtain ⟨h1, hF, h3⟩ := hX.1.2.1 i hD
  have h1' := h1
  rw [ht] at h1'
  refine W.iast G.1 G.2.1 h1' ((gArr G 0 (by omega)).1 (n i) (fun j => .int (A i j))) (fun q => by cases q) (by rw [arrV_size]; exact in_nI hlt h3) rfl rfl d fun H' e1 e2 e3 => ?_
  rw [nI_clamp (by omega), ar_set] at e1
  exact kk H' _ ls ⟨hX.1.arr hD (by rw [ht]; exact e1) e3, hX.2.put e2 e3 hF⟩ hl
theorem v_zast (G : Gd E p s m args meth c cc own nL ret) (i j : Nat) {x y : Int32} (d : decode cc pc = .ok (.bastore, 1)) (hD : DA i) (ht : ta i = 2) (hj : x = nI j) (hlt : j < n i) (hy : narrow .boolean (.int y) = .int y) (kk : V p l e R s m args below meth c nL (Sy E DO DA H0 ρ g (va_up A i (va_up (A i) j y)) n tx) cells slots Q (pc + 1) L S) : V p l e R s m args below meth c nL (Sy E DO DA H0 ρ g A n tx) cells slots Q pc L (.int y :: .int x :: .ref (ρ i) :: S) := by
  intro H locs ls hX hl
  subst hj
  obtain ⟨h1, hF, h3⟩ := hX.1.2.1 i hD
  have h1' := h1
  rw [ht] at h1'
  refine W.zast G.1 G.2.1 h1' ((gArr G 2 (by omega)).1 (n i) (fun j => .int (A i j))) (fun q => by cases q) (by rw [arrV_size]; exact in_nI hlt h3) rfl rfl d fun H' e1 e2 e3 => ?_
  rw [hy, nI_clamp (by omega), ar_set] at e1
  exact kk H' _ ls ⟨hX.1.arr hD (by rw [ht]; exact e1) e3, hX.2.put e2 e3 hF⟩ hl
theorem v_bast (G : Gd E p s m args meth c cc own nL ret) (i j : Nat) {x y z : Int32} (d : decode cc pc = .ok (.bastore, 1)) (hD : DA i) (ht : ta i = 1) (hj : x = nI j) (hlt : j < n i) (hy : narrow .byte (.int y) = .int z) (kk : V p l e R s m args below meth c nL (Sy E DO DA H0 ρ g (va_up A i (va_up (A i) j z)) n tx) cells slots Q (pc + 1) L S) : V p l e R s m args below meth c nL (Sy E DO DA H0 ρ g A n tx) cells slots Q pc L (.int y :: .int x :: .ref (ρ i) :: S) := by
  intro H locs ls hX hl
  subst hj
  obtain ⟨h1, hF, h3⟩ := hX.1.2.1 i hD
  have h1' := h1
  rw [ht] at h1'
  refine W.bast G.1 G.2.1 h1' ((gArr G 1 (by omega)).1 (n i) (fun j => .int (A i j))) (fun q => by cases q) (by rw [arrV_size]; exact in_nI hlt h3) rfl rfl d fun H' e1 e2 e3 => ?_
  rw [hy, nI_clamp (by omega), ar_set] at e1
  exact kk H' _ ls ⟨hX.1.arr hD (by rw [ht]; exact e1) e3, hX.2.put e2 e3 hF⟩ hl
-- a new array, under a number for a while
theorem Wd.kept (h : Wd E DO DA ρ g A n tx H) (hq : ∀ q, q < H.size → H1[q]? = H[q]?) : Wd E DO DA ρ g A n tx H1 := by
  obtain ⟨h1, h2, h3, h4, h5⟩ := h
  refine ⟨fun k hk => ⟨(h1 k hk).1, (h1 k hk).2.1.kept (hq _ ?_), (h1 k hk).2.2⟩, fun i hi => ⟨by rw [hq _ (Array.getElem?_eq_some_iff.mp (h2 i hi).1).1]; exact (h2 i hi).1, (h2 i hi).2⟩, h3, h4, h5⟩
  obtain ⟨cell, q1, -⟩ := (h1 k hk).2.1
  exact (Array.getElem?_eq_some_iff.mp q1).1
theorem Wd.lt_a (h : Wd E DO DA ρ g A n tx H) {i : Nat} (hi : DA i) : ρ i < H.size := (Array.getElem?_eq_some_iff.mp (h.2.1 i hi).1).1
theorem Wd.lt_o (h : Wd E DO DA ρ g A n tx H) {k : Nat} (hk : DO k) : E.o k < H.size := by
  obtain ⟨cell, q1, -⟩ := (h.1 k hk).2.1
  exact (Array.getElem?_eq_some_iff.mp q1).1
theorem fld_rho {o ρ' : Nat → Nat} {t : Nat} (ht : ∀ k j, k < 7 → j < 24 → kd k j ≠ t + 1) (h : ∀ i, i ≠ t → ρ' i = ρ i) {k j : Nat} (hk : k < 7) (hj : j < 24) : fld o ρ' g tx k j = fld o ρ g tx k j := by
  unfold fld
  by_cases e0 : kd k j = 0
  · simp [e0]
  · by_cases e1 : kd k j < 50
    · simp only [e0, e1, if_false, if_true]
      rw [h (kd k j - 1) (fun z => ht k j hk hj (by omega))]
    · by_cases e2 : kd k j < 60 <;> simp [e0, e1, e2]
theorem NF_le : ∀ k, k < 7 → NF k ≤ 24 := by decide +kernel
theorem v_newa (G : Gd E p s m args meth c cc own nL ret) (t N : Nat) {atype : ArrayType} {x : Int32} (d : decode cc pc = .ok (.newarray atype, 2)) (hw : Cond.arrayClass (newarray.typeOf atype) ∈ lw_tbl) (hty : newarray.typeOf atype = aty (ta t)) (hdf : defaultValue (aty (ta t)) = .int 0) (hD : ¬ DA t) (ht : ∀ k j, k < 7 → j < 24 → kd k j ≠ t + 1) (hx : x = nI N) (hN : N < 2147483648) (hb : N * componentBytes (newarray.typeOf atype) ≤ 536870912) (hc : cells + 1 ≤ R.cells) (hs : slots + N ≤ R.slots)
    (kk : ∀ q, V p l e R s m args below meth c nL (Sy E DO (fun i => DA i ∨ i = t) s.heap (va_up ρ t q) g (va_up A t (fun _ => 0)) (va_up n t N) tx) (cells + 1) (slots + N) Q (pc + 2) L (.ref (va_up ρ t q t) :: S)) : V p l e R s m args below meth c nL (Sy E DO DA s.heap ρ g A n tx) cells slots Q pc L (.int x :: S) := by
  intro H locs ls hX hl
  subst hx
  refine va_newaK G.1 G.2.1 (gw G hw rfl) rfl d rfl (nI_pos (by omega)) (nI_clamp (by omega)) hb hc hs rfl fun H1 cA' e1 z1 o1 hAr hNm => ?_
  have hcA : cA' = E.cA (ta t) := by
    have h1 := (gArr G (ta t) (by have := ta_lt t; omega)).2
    have h2 : ∀ u, u < 3 → va_RA s (E.cA u) (aty u) → s.vm.findClass ("[" ++ (aty u).toString) = some (E.cA u) := by
      intro u hu h
      rcases (show u = 0 ∨ u = 1 ∨ u = 2 by omega) with rfl | rfl | rfl <;> exact h
    have h3 := h2 (ta t) (ta_lt t) h1
    rw [hty] at hNm
    exact Option.some.inj (hNm.symm.trans h3)
  have hkk := kk H.size H1 locs ls
  rw [va_up_self] at hkk
  refine hkk ⟨?_, Nat.le_trans hX.2.1 (by omega), fun q h1 h2 => (o1 q (Nat.lt_of_lt_of_le h1 hX.2.1)).trans (hX.2.2.1 q h1 h2), hX.2.2.2⟩ hl
  have hW := hX.1.kept (H1 := H1) o1
  obtain ⟨g1, g2, g3, g4, g5⟩ := hW
  have ne : ∀ i, DA i → i ≠ t := fun i hi z => hD (z ▸ hi)
  refine ⟨fun k hk => ⟨(g1 k hk).1, (g1 k hk).2.1.to fun j hj => (fld_rho ht (fun i hi => va_up_ne _ _ hi) (g1 k hk).1 (Nat.lt_of_lt_of_le hj (NF_le k (g1 k hk).1))).symm, (g1 k hk).2.2⟩, fun i hi => ?_, g3, fun i j hi hj hij => ?_, fun k i hk hi => ?_⟩
  · rcases hi with hi | rfl
    · rw [va_up_ne _ _ (ne i hi), va_up_ne _ _ (ne i hi), va_up_ne _ _ (ne i hi)]
      exact g2 i hi
    · rw [va_up_self, va_up_self, va_up_self]
      refine ⟨?_, gF G _ hX.2.1, hN⟩
      rw [e1, hcA, hty, hdf]
  · rcases hi with hi | rfl <;> rcases hj with hj | rfl
    · rw [va_up_ne _ _ (ne i hi), va_up_ne _ _ (ne j hj)] at hij
      exact g4 i j hi hj hij
    · rw [va_up_ne _ _ (ne i hi), va_up_self] at hij
      have := hX.1.lt_a hi
      omega
    · rw [va_up_ne _ _ (ne j hj), va_up_self] at hij
      have := hX.1.lt_a hj
      omega
    · rfl
  · rcases hi with hi | rfl
    · rw [va_up_ne _ _ (ne i hi)]
      exact g5 k i hk hi
    · rw [va_up_self]
      have := hX.1.lt_o hk
      omega
/-- a field of an array i takes the array t: the two numbers change places -/
theorem v_swap (G : Gd E p s m args meth c cc own nL ret) {idx k f i : Nat} (t : Nat) (d : decode cc pc = .ok (.putfield idx, 3)) (h : FA DO own idx k f i) (hnf : (FT k f).2.2.2 = false) (hn : narrow (TY k f) (.ref (ρ t)) = .ref (ρ t)) (hfit : fits (TY k f) (.ref (ρ t)) = true) (hDi : DA i) (hDt : DA t) (hta : ta t = ta i) (hu : ∀ k', k' < 7 → ∀ j, j < 24 → (kd k' j = i + 1 → k' = k ∧ j = f) ∧ kd k' j ≠ t + 1)
    (kk : V p l e R s m args below meth c nL (Sy E DO DA H0 (swp ρ i t) g (swp A i t) (swp n i t) tx) cells slots Q (pc + 3) L S) : V p l e R s m args below meth c nL (Sy E DO DA H0 ρ g A n tx) cells slots Q pc L (.ref (ρ t) :: .ref (E.o k) :: S) := by
  intro H locs ls hX hl
  obtain ⟨h1, h2, h3, h5, h4⟩ := h
  obtain ⟨hk, hO, hFk⟩ := hX.1.1 k h4
  have hti : t ≠ i := fun z => (hu k hk f (Nat.lt_of_lt_of_le h2 (NF_le k hk))).2 (by rw [z]; exact h3)
  have swi : ∀ {α : Type} (q : Nat → α), swp q i t i = q t := fun q => by simp [swp]
  have swt : ∀ {α : Type} (q : Nat → α), swp q i t t = q i := fun q => by simp [swp, hti]
  have swo : ∀ {α : Type} (q : Nat → α) {x : Nat}, x ≠ i → x ≠ t → swp q i t x = q x := fun q x a b => by simp [swp, a, b]
  have key : ∀ k' j, k' < 7 → j < 24 → ¬ (k' = k ∧ j = f) → fld E.o (swp ρ i t) g tx k' j = fld E.o ρ g tx k' j := by
    intro k' j hk' hj hne
    unfold fld
    by_cases e0 : kd k' j = 0
    · simp [e0]
    · by_cases e1 : kd k' j < 50
      · simp only [e0, e1, if_false, if_true]
        rw [swo]
        · exact fun z => hne ((hu k' hk' j hj).1 (by omega))
        · exact fun z => (hu k' hk' j hj).2 (by omega)
      · by_cases e2 : kd k' j < 60 <;> simp [e0, e1, e2]
  refine w_put G hk h2 hnf h1 hO hn hfit d fun H' ix hO' hz hq => kk H' _ ls ⟨?_, hX.2.put hz hq hFk⟩ hl
  obtain ⟨g1, g2, g3, g4, g5⟩ := hX.1
  have inj : ∀ x, DA x → DA (if x = i then t else if x = t then i else x) := by
    intro x hx
    by_cases e1 : x = i
    · simp [e1]; exact hDt
    · by_cases e2 : x = t
      · simp [e1, e2, hti]; exact hDi
      · simp [e1, e2]; exact hx
  have as : ∀ {α : Type} (q : Nat → α) (x : Nat), swp q i t x = q (if x = i then t else if x = t then i else x) := by
    intro α q x
    by_cases e1 : x = i
    · simp [swp, e1]
    · by_cases e2 : x = t
      · simp [swp, e2, hti]
      · simp [swp, e1, e2]
  refine ⟨fun k' hk' => ?_, fun x hx => ?_, g3, fun x y hx hy hxy => ?_, fun k' x hk' hx => ?_⟩
  · by_cases e : k' = k
    · subst e
      refine ⟨hk, hO'.to fun j hj => ?_, (g1 k' hk').2.2⟩
      by_cases ej : j = f
      · subst ej
        rw [if_pos rfl, fld_a h3 h5, swi]
      · rw [if_neg ej, key k' j hk (Nat.lt_of_lt_of_le hj (NF_le k' hk)) (fun z => ej z.2)]
    · refine ⟨(g1 k' hk').1, ((g1 k' hk').2.1.kept (hq _ fun z => e (g3 _ _ hk' h4 z))).to fun j hj => (key k' j (g1 k' hk').1 (Nat.lt_of_lt_of_le hj (NF_le k' (g1 k' hk').1)) (fun z => e z.1)).symm, (g1 k' hk').2.2⟩
  · have hx' := inj x hx
    have e := g2 _ hx'
    rw [as ρ, as n, as A, hq _ fun z => g5 k _ h4 hx' z.symm]
    have hta' : ta (if x = i then t else if x = t then i else x) = ta x := by
      by_cases e1 : x = i
      · simp [e1, hta]
      · by_cases e2 : x = t
        · simp [e2, hti, hta]
        · simp [e1, e2]
    rw [hta'] at e
    exact e
  · rw [as ρ, as ρ] at hxy
    exact sw_inj hti x y (g4 _ _ (inj x hx) (inj y hy) hxy)
  · rw [as ρ]
    exact g5 k' _ hk' (inj x hx)
/-- fewer arrays are looked at -/
theorem v_drop {DA' : Nat → Prop} (h : ∀ i, DA' i → DA i) (kk : V p l e R s m args below meth c nL (Sy E DO DA' H0 ρ g A n tx) cells slots Q pc L S) : V p l e R s m args below meth c nL (Sy E DO DA H0 ρ g A n tx) cells slots Q pc L S :=
  v_X (fun H locs hX => ⟨⟨hX.1.1, fun i hi => hX.1.2.1 i (h i hi), hX.1.2.2.1, fun i j hi hj => hX.1.2.2.2.1 i j (h i hi) (h j hj), fun k i hk hi => hX.1.2.2.2.2 k i hk (h i hi)⟩, hX.2⟩) kk
/-- the picture matters only where it is looked at -/
theorem Wd.same {ρ' : Nat → Nat} {g' A' : Nat → Nat → Int32} {n' : Nat → Nat} {tx' : Value} (h : Wd E DO DA ρ g A n tx H) (hf : ∀ k, DO k → ∀ j, j < NF k → fld E.o ρ' g' tx' k j = fld E.o ρ g tx k j) (hr : ∀ i, DA i → ρ' i = ρ i) (hn : ∀ i, DA i → n' i = n i) (hA : ∀ i, DA i → ∀ j, j < n i → A' i j = A i j) : Wd E DO DA ρ' g' A' n' tx' H := by
  obtain ⟨g1, g2, g3, g4, g5⟩ := h
  refine ⟨fun k hk => ⟨(g1 k hk).1, (g1 k hk).2.1.to fun j hj => (hf k hk j hj).symm, (g1 k hk).2.2⟩, fun i hi => ?_, g3, fun i j hi hj hij => g4 i j hi hj (by rw [← hr i hi, ← hr j hj]; exact hij), fun k i hk hi => by rw [hr i hi]; exact g5 k i hk hi⟩
  rw [hr i hi, hn i hi]
  refine ⟨?_, (g2 i hi).2⟩
  rw [(g2 i hi).1]
  congr 1
  unfold arrV
  congr 1
  apply Array.ext
  · simp
  · intro j h1 h2
    simp at h1 h2
    simp [hA i hi j h1]
end VH
