/-! contracts over the picture, their start, the calls, the returns -/
def entL (vs : List Value) : List (Option Value) := vs.flatMap fun v => if v.category = 2 then [some v, none] else [some v]
theorem entL_sl : ∀ (vs : List Value) (i : Nat) (v : Value), (entL vs)[i]? = some (some v) → (lg_sl vs)[i]? = some (.val v)
  | [], i, v, h => by simp [entL] at h
  | w :: r, i, v, h => by
    have ih := entL_sl r
    unfold entL lg_sl at *
    rw [List.flatMap_cons] at h ⊢
    by_cases hc : w.category = 2
    · rw [if_pos hc] at h ⊢
      match i, h with
      | 0, h => simp at h ⊢; exact h
      | 1, h => simp at h
      | i + 2, h => simp at h ⊢; exact ih i v h
    · rw [if_neg hc] at h ⊢
      match i, h with
      | 0, h => simp at h ⊢; exact h
      | i + 1, h => simp at h ⊢; exact ih i v h
theorem entL_len (vs : List Value) : (entL vs).length = (lg_sl vs).length := by
  induction vs with
  | nil => rfl
  | cons w r ih =>
    unfold entL lg_sl at *
    rw [List.flatMap_cons, List.flatMap_cons, List.length_append, List.length_append, ih]
    split <;> rfl
abbrev entL0 (vs : List Value) (n : Nat) : List (Option Value) := entL vs ++ List.replicate (n - (entL vs).length) none
theorem LH_entry (vs : List Value) {n : Nat} (h : (entL vs).length ≤ n) : LH ((lg_sl vs ++ List.replicate (n - (lg_sl vs).length) Slot.unset).toArray) n (entL0 vs n) := by
  have h0 := lv_entry vs (n := n) (by rw [← entL_len]; exact h)
  refine ⟨h0.1, h0.2.1, fun i v hv => ?_⟩
  by_cases hi : i < (entL vs).length
  · rw [List.getElem?_append_left hi] at hv
    have := entL_sl vs i v hv
    simp only [List.getElem?_toArray]
    rw [List.getElem?_append_left (by rw [← entL_len]; exact hi)]
    exact this
  · rw [List.getElem?_append_right (by omega)] at hv
    have := List.mem_of_getElem? hv
    have := List.eq_of_mem_replicate this
    cases this
abbrev Post : Type := Option Value → (Nat → Nat) → (Nat → Nat → Int32) → (Nat → Nat → Int32) → (Nat → Nat) → Value → Prop
abbrev Bse (E : Bs) (U : State) : Prop := E.S.WarmedH U.vm ∧ Bel E U.heap ∧ ∀ q, U.heap.size ≤ q → E.F q
abbrev QW (E : Bs) (DO DA : Nat → Prop) (post : Post) : Array Value → State → Outcome → State → Prop := fun _ st oc t => (∃ r ρ' g' A' n' tx', oc = .returned r ∧ post r ρ' g' A' n' tx' ∧ Wd E DO DA ρ' g' A' n' tx' t.heap) ∧ va_F E.F st t
abbrev QP (post : Option Value → Prop) : Array Value → State → Outcome → State → Prop := fun _ st oc t => ∃ r, oc = .returned r ∧ post r ∧ t.heap = st.heap
/-- the contract of a method over the picture -/
def CW (l : Launch) (E : Bs) (DO DA : Nat → Prop) (y : MethodName) (bytes : ByteArray) (maxL : Nat) (ret : Option FieldType) (rm : Room) (av : List Value) (ρ : Nat → Nat) (g A : Nat → Nat → Int32) (n : Nat → Nat) (tx : Value) (post : Post) : Prop :=
  Met l y [.code y bytes maxL ret] rm (va_Pc av (fun U => Bse E U ∧ Wd E DO DA ρ g A n tx U.heap)) (QW E DO DA post) rm.cells rm.slots E.F
/-- the contract of a method that changes nothing -/
def CP (l : Launch) (E : Bs) (y : MethodName) (bytes : ByteArray) (maxL : Nat) (ret : Option FieldType) (rm : Room) (av : List Value) (post : Option Value → Prop) : Prop :=
  Met l y [.code y bytes maxL ret] rm (va_Pc av (Bse E)) (QP post) rm.cells rm.slots (fun _ => False)
section VC
variable {E : Bs} {p : Program} {l : Launch} {e : Env} {R : Room} {s : State} {m : MethodId} {args : Array Value} {below : List Frame} {meth : Method} {c : Code} {cc : ByteArray} {own : String} {nL : Nat} {ret : Option FieldType} {X : Heap → List Loc → Prop} {cells slots : Nat} {Q : State → Prop} {pc : Nat} {L : List (Option Value)} {S : List Value}
variable {DO DA : Nat → Prop} {ρ : Nat → Nat} {g A : Nat → Nat → Int32} {n : Nat → Nat} {tx : Value} {H H1 H0 : Heap} {locs : List Loc} {ls : Array Slot}
theorem CW.start {y : MethodName} {bytes : ByteArray} {maxL : Nat} {ret : Option FieldType} {rm : Room} {av : List Value} {post : Post} (L0 : List (Option Value)) (hE : Hb E) (hy : plainName y.cls = true) (hl : (entL av).length ≤ maxL) (hL : entL0 av maxL = L0)
    (body : ∀ p e s m args below meth c, Gd E p s m args meth c bytes y.cls maxL ret → V p l e rm s m args below meth c maxL (Sy E DO DA s.heap ρ g A n tx) 0 0 (MQ below (QW E DO DA post) args s rm.cells rm.slots E.F) 0 L0 []) : CW l E DO DA y bytes maxL ret rm av ρ g A n tx post := by
  refine Met.ofW (cc := bytes) (maxL := maxL) (ret := ret) hy rfl ?_
  intro p e s m args below meth c s₁ B hml hv
  obtain ⟨rfl, ⟨hW, hBel, hF⟩, hWd⟩ := hv
  have hown : s.vm.findClass y.cls = some m.cls := findClass_of_methodNamed B.named
  rw [lg_entry_eq]
  exact body p e s m av.toArray below meth c ⟨B.exec, B.bytes, hml, hown, B.returns, B.notSynchronized, hE, hW, hBel, hF⟩ s.heap [] _ ⟨hWd, va_S.rf⟩ (hL ▸ LH_entry av hl)
theorem CP.start0 {y : MethodName} {bytes : ByteArray} {maxL : Nat} {ret : Option FieldType} {rm : Room} {av : List Value} {post : Option Value → Prop} (L0 : List (Option Value)) (hE : Hb E) (hy : plainName y.cls = true) (hl : (entL av).length ≤ maxL) (hL : entL0 av maxL = L0)
    (body : ∀ p e s m args below meth c, Gd E p s m args meth c bytes y.cls maxL ret → V p l e rm s m args below meth c maxL (Pu s.heap) 0 0 (MQ below (QP post) args s rm.cells rm.slots (fun _ => False)) 0 L0 []) : CP l E y bytes maxL ret rm av post := by
  refine Met.ofW (cc := bytes) (maxL := maxL) (ret := ret) hy rfl ?_
  intro p e s m args below meth c s₁ B hml hv
  obtain ⟨rfl, hW, hBel, hF⟩ := hv
  have hown : s.vm.findClass y.cls = some m.cls := findClass_of_methodNamed B.named
  rw [lg_entry_eq]
  exact body p e s m av.toArray below meth c ⟨B.exec, B.bytes, hml, hown, B.returns, B.notSynchronized, hE, hW, hBel, hF⟩ s.heap [] _ ⟨rfl, rfl⟩ (hL ▸ LH_entry av hl)
/-- the same for a member of the JDK -/
theorem CP.startF {y : MethodName} {bytes : ByteArray} {maxL : Nat} {ret : Option FieldType} {rm : Room} {av : List Value} {post : Option Value → Prop} (L0 : List (Option Value)) (hE : Hb E) (hy : plainFor y = true) (hl : (entL av).length ≤ maxL) (hL : entL0 av maxL = L0)
    (body : ∀ p e s m args below meth c, Gd E p s m args meth c bytes y.cls maxL ret → V p l e rm s m args below meth c maxL (Pu s.heap) 0 0 (MQ below (QP post) args s rm.cells rm.slots (fun _ => False)) 0 L0 []) : CP l E y bytes maxL ret rm av post := by
  refine va_MetF (cc := bytes) (maxL := maxL) (ret := ret) hy rfl ?_
  intro p e s m args below meth c s₁ B hml hv
  obtain ⟨rfl, hW, hBel, hF⟩ := hv
  have hown : s.vm.findClass y.cls = some m.cls := findClass_of_methodNamed B.named
  rw [lg_entry_eq]
  exact body p e s m av.toArray below meth c ⟨B.exec, B.bytes, hml, hown, B.returns, B.notSynchronized, hE, hW, hBel, hF⟩ s.heap [] _ ⟨rfl, rfl⟩ (hL ▸ LH_entry av hl)
-- returns
theorem v_ret_w {post : Post} {r : Option Value} (h : post r ρ g A n tx) (hX : Sy E DO DA s.heap ρ g A n tx H locs) {t : State} (ht : t.heap = H) : QW E DO DA post args s (.returned r) t :=
  ⟨⟨r, ρ, g, A, n, tx, rfl, h, by rw [ht]; exact hX.1⟩, hX.2.F ht⟩
theorem v_iret (G : Gd E p s m args meth c cc own nL ret) {post : Post} {v : Int32} (d : decode cc pc = .ok (.ireturn, 1)) (hr : ret = some .int) (h : post (some (.int v)) ρ g A n tx) : V p l e R s m args below meth c nL (Sy E DO DA s.heap ρ g A n tx) cells slots (MQ below (QW E DO DA post) args s cells slots E.F) pc L [.int v] := by
  intro H locs ls hX hl
  have hlk := glk G
  exact W.iret G.1 G.2.1 (by rw [gr G, hr]) (fun t ht _ => v_ret_w h hX ht) (fun q hq => hX.2.2.2 q hq) d
theorem v_zret (G : Gd E p s m args meth c cc own nL ret) {post : Post} {v : Int32} {ty : FieldType} (d : decode cc pc = .ok (.ireturn, 1)) (hr : ret = some ty) (hn : narrow ty (.int v) = .int v) (h : post (some (.int v)) ρ g A n tx) : V p l e R s m args below meth c nL (Sy E DO DA s.heap ρ g A n tx) cells slots (MQ below (QW E DO DA post) args s cells slots E.F) pc L [.int v] := by
  intro H locs ls hX hl
  have hlk := glk G
  exact W.zret G.1 G.2.1 (by rw [gr G, hr]) hn (fun t ht _ => v_ret_w h hX ht) (fun q hq => hX.2.2.2 q hq) d
theorem v_vret (G : Gd E p s m args meth c cc own nL ret) {post : Post} (d : decode cc pc = .ok (.return_, 1)) (hr : ret = none) (h : post none ρ g A n tx) : V p l e R s m args below meth c nL (Sy E DO DA s.heap ρ g A n tx) cells slots (MQ below (QW E DO DA post) args s cells slots E.F) pc L [] := by
  intro H locs ls hX hl
  have hlk := glk G
  exact W.vret G.1 G.2.1 (by rw [gr G, hr]) (fun t ht _ => v_ret_w h hX ht) (fun q hq => hX.2.2.2 q hq) d
theorem v_aret (G : Gd E p s m args meth c cc own nL ret) {post : Post} {a : Nat} {rt : FieldType} (d : decode cc pc = .ok (.areturn, 1)) (hr : ret = some rt) (hrt : (∃ n, rt = .object n) ∨ ∃ t, rt = .array t) (h : post (some (.ref a)) ρ g A n tx) : V p l e R s m args below meth c nL (Sy E DO DA s.heap ρ g A n tx) cells slots (MQ below (QW E DO DA post) args s cells slots E.F) pc L [.ref a] := by
  intro H locs ls hX hl
  have hlk := glk G
  exact W.aret G.1 G.2.1 (by rw [gr G, hr]) hrt (Or.inr ⟨a, rfl⟩) (fun t ht _ => v_ret_w h hX ht) (fun q hq => hX.2.2.2 q hq) d
theorem p_iret (G : Gd E p s m args meth c cc own nL ret) {post : Option Value → Prop} {v : Int32} (d : decode cc pc = .ok (.ireturn, 1)) (hr : ret = some .int) (h : post (some (.int v))) : V p l e R s m args below meth c nL (Pu s.heap) cells slots (MQ below (QP post) args s cells slots (fun _ => False)) pc L [.int v] := by
  intro H locs ls hX hl
  have hlk := glk G
  exact W.iret G.1 G.2.1 (by rw [gr G, hr]) (fun t ht _ => ⟨_, rfl, h, by rw [ht, hX.1]⟩) (fun q hq => by rw [hX.2] at hq; cases hq) d
theorem p_zret (G : Gd E p s m args meth c cc own nL ret) {post : Option Value → Prop} {v : Int32} {ty : FieldType} (d : decode cc pc = .ok (.ireturn, 1)) (hr : ret = some ty) (hn : narrow ty (.int v) = .int v) (h : post (some (.int v))) : V p l e R s m args below meth c nL (Pu s.heap) cells slots (MQ below (QP post) args s cells slots (fun _ => False)) pc L [.int v] := by
  intro H locs ls hX hl
  have hlk := glk G
  exact W.zret G.1 G.2.1 (by rw [gr G, hr]) hn (fun t ht _ => ⟨_, rfl, h, by rw [ht, hX.1]⟩) (fun q hq => by rw [hX.2] at hq; cases hq) d
theorem p_vret (G : Gd E p s m args meth c cc own nL ret) {post : Option Value → Prop} (d : decode cc pc = .ok (.return_, 1)) (hr : ret = none) (h : post none) : V p l e R s m args below meth c nL (Pu s.heap) cells slots (MQ below (QP post) args s cells slots (fun _ => False)) pc L [] := by
  intro H locs ls hX hl
  have hlk := glk G
  exact W.vret G.1 G.2.1 (by rw [gr G, hr]) (fun t ht _ => ⟨_, rfl, h, by rw [ht, hX.1]⟩) (fun q hq => by rw [hX.2] at hq; cases hq) d
-- calls
theorem blindW {av : List Value} : FrameBlind (va_Pc av (fun U => Bse E U ∧ Wd E DO DA ρ g A n tx U.heap)) := by
  intro a U g mk h
  exact h
theorem blindP {av : List Value} : FrameBlind (va_Pc av (Bse E)) := by
  intro a U g mk h
  exact h
def noMH (y : MethodName) (n : Nat) : Prop := (y.cls ≠ "java/lang/invoke/MethodHandle" ∧ y.cls ≠ "java/lang/invoke/VarHandle") ∧ (parseMethodDescriptor y.desc).map (fun d => d.parameters.length) = some n
def KV (own : String) (idx : Nat) (y : MethodName) (bytes : ByteArray) (maxL : Nat) (ret : Option FieldType) (n : Nat) : Prop := Cond.methodLink own idx y ∈ lw_tbl ∧ Cond.instanceMethod y ∈ lw_tbl ∧ Cond.selects y.cls y y ∈ lw_tbl ∧ Cond.initialized y.cls ∈ lw_tbl ∧ Cond.code y bytes maxL ret ∈ lw_tbl ∧ noMH y n
def KS (own : String) (idx : Nat) (y : MethodName) (bytes : ByteArray) (maxL : Nat) (ret : Option FieldType) (n : Nat) : Prop := Cond.methodLink own idx y ∈ lw_tbl ∧ Cond.static y ∈ lw_tbl ∧ Cond.initialized y.cls ∈ lw_tbl ∧ Cond.code y bytes maxL ret ∈ lw_tbl ∧ noMH y n
def KN (own : String) (idx : Nat) (y : MethodName) (host : String) (bytes : ByteArray) (maxL : Nat) (ret : Option FieldType) (n : Nat) : Prop := Cond.methodLinkNest own idx y host ∈ lw_tbl ∧ Cond.static y ∈ lw_tbl ∧ Cond.initialized y.cls ∈ lw_tbl ∧ Cond.code y bytes maxL ret ∈ lw_tbl ∧ noMH y n
variable {y : MethodName} {bytes : ByteArray} {maxL idx nn : Nat} {rt : Option FieldType} {rm : Room} {As : List Value} {host : String}
theorem callB_w (G : Gd E p s m args meth c cc own nL ret) (hl : Cond.methodLink own idx y ∈ lw_tbl) (hi : Cond.initialized y.cls ∈ lw_tbl) (hc : Cond.code y bytes maxL rt ∈ lw_tbl) (hm : noMH y nn) (hR : rm.frames + 1 ≤ R.frames ∧ 8 + (maxL + 11) + rm.locals ≤ R.locals) : CallB R s args own idx y bytes maxL rt [.code y bytes maxL rt] rm rm.cells rm.slots nn := by
  refine ⟨rfl, rfl, hR.1, hR.2, fun w hw a' U hW => ?_, List.mem_singleton.mpr rfl, gw G hc rfl, gw G hi rfl, hm.1, fun sig h => ?_, gw G hl rfl⟩
  · rw [List.mem_singleton.mp hw]
    exact word_at hW (Or.inl rfl) (gw G hc rfl)
  · have h2 := hm.2
    rw [h] at h2
    exact (Option.some.inj h2).symm
theorem Sy.bse (G : Gd E p s m args meth c cc own nL ret) (hX : Sy E DO DA s.heap ρ g A n tx H locs) {U : State} (hU : U.heap = H) (hW : s.WarmedH U.vm) : Bse E U :=
  ⟨State.WarmedH.trans (gW G) hW, by rw [hU]; exact Sy.bel G hX, fun q hq => gF G q (by rw [hU] at hq; exact Nat.le_trans hX.2.1 hq)⟩
theorem w_back_w {post : Post} {mc ms : Nat} {gg : JFrame} {a : Array Value} (hr : va_Run p l e R s m args below meth c H locs cells slots mc ms (F0 m pc ls (gg.stack)) S (QW E DO DA post a) E.F) (hX : Sy E DO DA s.heap ρ g A n tx H locs) (hl : LH ls nL L)
    (kk : ∀ r ρ' g' A' n' tx', post r ρ' g' A' n' tx' → V p l e R s m args below meth c nL (Sy E DO DA s.heap ρ' g' A' n' tx') (cells + mc) (slots + ms) Q (pc + 3) L (r.toList ++ S)) : W p l e R s m args below meth c H locs cells slots Q (F0 m pc ls gg.stack) := by
  intro T hT Y
  obtain ⟨v, st₀, t, T', Lo, h0, X', hL, e1, e2, ⟨⟨r, ρ', g', A', n', tx', hv, hp, hb⟩, hz, hk⟩, st⟩ := hr T hT Y
  cases hv
  rw [h0] at hz hk
  obtain ⟨t2, a1, b1⟩ := kk _ ρ' g' A' n' tx' hp T'.heap (locs ++ Lo) ls ⟨by rw [e1]; exact hb, Nat.le_trans hX.2.1 (by rw [e1]; exact hz), fun q h1 h2 => by rw [e1, hk q (Nat.lt_of_lt_of_le h1 hX.2.1) h2]; exact hX.2.2.1 q h1 h2, fun q hq => by
      rcases List.mem_append.mp hq with h | h
      · exact hX.2.2.2 q h
      · exact hL q h⟩ hl T' rfl X'
  exact ⟨t2, st t2 a1, b1⟩
/-- a call of an instance method of ours, by its contract -/
theorem v_callV (G : Gd E p s m args meth c cc own nL ret) {post : Post} {k : Nat} {S0 : List Value} (d : decode cc pc = .ok (.invokevirtual idx, 3)) (K : KV own idx y bytes maxL rt nn) (M : CW l E DO DA y bytes maxL rt rm (.ref (E.o k) :: As) ρ g A n tx post) (hk : DO k) (hC : y.cls = CN k) (hn : As.length = nn) (hS : S0 = As.reverse ++ .ref (E.o k) :: S) (hcat : (S.map fun v => v.category).sum ≤ 8) (hR : rm.frames + 1 ≤ R.frames ∧ 8 + (maxL + 11) + rm.locals ≤ R.locals) (hf : cells + rm.cells ≤ R.cells ∧ slots + rm.slots ≤ R.slots)
    (kk : ∀ r ρ' g' A' n' tx', post r ρ' g' A' n' tx' → V p l e R s m args below meth c nL (Sy E DO DA s.heap ρ' g' A' n' tx') (cells + rm.cells) (slots + rm.slots) Q (pc + 3) L (r.toList ++ S)) : V p l e R s m args below meth c nL (Sy E DO DA s.heap ρ g A n tx) cells slots Q pc L S0 := by
  intro H locs ls hX hl
  subst hS
  obtain ⟨k1, k2, k3, k4, k5, k6⟩ := K
  refine w_back_w (gg := F0 m pc ls (As.reverse ++ .ref (E.o k) :: S)) (va_runV (C := y.cls) (b := E.o k) (As := As) (rest := S) ⟨G.1, G.2.1, gml G, gown G, fun w hw => absurd hw List.not_mem_nil⟩ (Ts := []) M ⟨callB_w G k1 k4 k5 k6 hR, gw G k2 rfl, gw G k3 rfl⟩ ⟨blindW, ?_, fun U hU hW => ⟨rfl, Sy.bse G hX hU hW, by rw [hU]; exact hX.1⟩⟩ rfl hn hl.1 rfl (lv_room hcat) d hf) hX hl kk
  obtain ⟨hk7, ⟨cell, q1, q2, q3, -⟩, -⟩ := hX.1.1 k hk
  have := ((gK G).1 k _ (cls_at k hk7)).2.1
  exact ⟨cell, q1, by rw [q3]; rfl, by rw [hC, q2]; exact this⟩
theorem v_callS (G : Gd E p s m args meth c cc own nL ret) {post : Post} {S0 : List Value} (d : decode cc pc = .ok (.invokestatic idx, 3)) (K : KS own idx y bytes maxL rt nn) (M : CW l E DO DA y bytes maxL rt rm As ρ g A n tx post) (hn : As.length = nn) (hS : S0 = As.reverse ++ S) (hcat : (S.map fun v => v.category).sum ≤ 8) (hR : rm.frames + 1 ≤ R.frames ∧ 8 + (maxL + 11) + rm.locals ≤ R.locals) (hf : cells + rm.cells ≤ R.cells ∧ slots + rm.slots ≤ R.slots)
    (kk : ∀ r ρ' g' A' n' tx', post r ρ' g' A' n' tx' → V p l e R s m args below meth c nL (Sy E DO DA s.heap ρ' g' A' n' tx') (cells + rm.cells) (slots + rm.slots) Q (pc + 3) L (r.toList ++ S)) : V p l e R s m args below meth c nL (Sy E DO DA s.heap ρ g A n tx) cells slots Q pc L S0 := by
  intro H locs ls hX hl
  subst hS
  obtain ⟨k1, k2, k4, k5, k6⟩ := K
  exact w_back_w (gg := F0 m pc ls (As.reverse ++ S)) (va_runS (As := As) (rest := S) ⟨G.1, G.2.1, gml G, gown G, fun w hw => absurd hw List.not_mem_nil⟩ (Ts := []) M ⟨callB_w G k1 k4 k5 k6 hR, gw G k2 rfl⟩ ⟨blindW, fun U hU hW => ⟨rfl, Sy.bse G hX hU hW, by rw [hU]; exact hX.1⟩⟩ rfl hn hl.1 rfl (lv_room hcat) d hf) hX hl kk
-- calls of what changes nothing
/-- what a call needs of the heap -/
def XB (E : Bs) (X : Heap → List Loc → Prop) (s : State) : Prop := ∀ H locs, X H locs → Bel E H ∧ s.heap.size ≤ H.size
theorem XB_Sy (G : Gd E p s m args meth c cc own nL ret) : XB E (Sy E DO DA s.heap ρ g A n tx) s := fun H locs h => ⟨Sy.bel G h, h.2.1⟩
theorem XB_Pu (G : Gd E p s m args meth c cc own nL ret) : XB E (Pu s.heap) s := fun H locs h => by rw [h.1]; exact ⟨gB G, Nat.le_refl _⟩
theorem w_back_p {post : Option Value → Prop} {mc ms : Nat} {gg : JFrame} {a : Array Value} (hr : va_Run p l e R s m args below meth c H locs cells slots mc ms (F0 m pc ls (gg.stack)) S (QP post a) (fun _ => False)) (hX : X H locs) (hl : LH ls nL L)
    (kk : ∀ r, post r → V p l e R s m args below meth c nL X (cells + mc) (slots + ms) Q (pc + 3) L (r.toList ++ S)) : W p l e R s m args below meth c H locs cells slots Q (F0 m pc ls gg.stack) := by
  intro T hT Y
  obtain ⟨v, st₀, t, T', Lo, h0, X', hL, e1, e2, ⟨r, hv, hp, hb⟩, st⟩ := hr T hT Y
  cases hv
  have hLo : Lo = [] := List.eq_nil_iff_forall_not_mem.mpr fun q hq => hL q hq
  subst hLo
  rw [List.append_nil] at X'
  obtain ⟨t2, a1, b1⟩ := kk _ hp H locs ls hX hl T' (by rw [e1, hb, h0]) X'
  exact ⟨t2, st t2 a1, b1⟩
theorem XB.bse (hB : XB E X s) (G : Gd E p s m args meth c cc own nL ret) (hX : X H locs) {U : State} (hU : U.heap = H) (hW : s.WarmedH U.vm) : Bse E U :=
  ⟨State.WarmedH.trans (gW G) hW, by rw [hU]; exact (hB H locs hX).1, fun q hq => gF G q (by rw [hU] at hq; exact Nat.le_trans (hB H locs hX).2 hq)⟩
theorem p_callS (G : Gd E p s m args meth c cc own nL ret) (hB : XB E X s) {post : Option Value → Prop} {S0 : List Value} (d : decode cc pc = .ok (.invokestatic idx, 3)) (K : KS own idx y bytes maxL rt nn) (M : CP l E y bytes maxL rt rm As post) (hn : As.length = nn) (hS : S0 = As.reverse ++ S) (hcat : (S.map fun v => v.category).sum ≤ 8) (hR : rm.frames + 1 ≤ R.frames ∧ 8 + (maxL + 11) + rm.locals ≤ R.locals) (hf : cells + rm.cells ≤ R.cells ∧ slots + rm.slots ≤ R.slots)
    (kk : ∀ r, post r → V p l e R s m args below meth c nL X (cells + rm.cells) (slots + rm.slots) Q (pc + 3) L (r.toList ++ S)) : V p l e R s m args below meth c nL X cells slots Q pc L S0 := by
  intro H locs ls hX hl
  subst hS
  obtain ⟨k1, k2, k4, k5, k6⟩ := K
  exact w_back_p (gg := F0 m pc ls (As.reverse ++ S)) (va_runS (As := As) (rest := S) ⟨G.1, G.2.1, gml G, gown G, fun w hw => absurd hw List.not_mem_nil⟩ (Ts := []) M ⟨callB_w G k1 k4 k5 k6 hR, gw G k2 rfl⟩ ⟨blindP, fun U hU hW => ⟨rfl, hB.bse G hX hU hW⟩⟩ rfl hn hl.1 rfl (lv_room hcat) d hf) hX hl kk
/-- the receiver's class, by its cell -/
def Rcv (X : Heap → List Loc → Prop) (s : State) (C : String) (b : Nat) : Prop := ∀ H locs, X H locs → ∃ cell : Cell, H[b]? = some cell ∧ cell.vm.isStatics = false ∧ s.vm.findClass C = some cell.cls
theorem p_callV (G : Gd E p s m args meth c cc own nL ret) (hB : XB E X s) {post : Option Value → Prop} {b : Nat} {S0 : List Value} (d : decode cc pc = .ok (.invokevirtual idx, 3)) (K : KV own idx y bytes maxL rt nn) (M : CP l E y bytes maxL rt rm (.ref b :: As) post) (hb : Rcv X s y.cls b) (hn : As.length = nn) (hS : S0 = As.reverse ++ .ref b :: S) (hcat : (S.map fun v => v.category).sum ≤ 8) (hR : rm.frames + 1 ≤ R.frames ∧ 8 + (maxL + 11) + rm.locals ≤ R.locals) (hf : cells + rm.cells ≤ R.cells ∧ slots + rm.slots ≤ R.slots)
    (kk : ∀ r, post r → V p l e R s m args below meth c nL X (cells + rm.cells) (slots + rm.slots) Q (pc + 3) L (r.toList ++ S)) : V p l e R s m args below meth c nL X cells slots Q pc L S0 := by
  intro H locs ls hX hl
  subst hS
  obtain ⟨k1, k2, k3, k4, k5, k6⟩ := K
  exact w_back_p (gg := F0 m pc ls (As.reverse ++ .ref b :: S)) (va_runV (C := y.cls) (b := b) (As := As) (rest := S) ⟨G.1, G.2.1, gml G, gown G, fun w hw => absurd hw List.not_mem_nil⟩ (Ts := []) M ⟨callB_w G k1 k4 k5 k6 hR, gw G k2 rfl, gw G k3 rfl⟩ ⟨blindP, hb H locs hX, fun U hU hW => ⟨rfl, hB.bse G hX hU hW⟩⟩ rfl hn hl.1 rfl (lv_room hcat) d hf) hX hl kk
theorem gN (G : Gd E p s m args meth c cc own nL ret) (h : Cond.methodLinkNest own idx y host ∈ lw_tbl) : va_Nw (.methodLinkNest own idx y host) s := by
  obtain ⟨-, -, -, -, -, -, ⟨⟨a0, h0, -⟩, -⟩, hW, -⟩ := G
  exact va_Nw.warmM hW (va_Nw.of rfl (h0 _ h))
theorem cn_w (G : Gd E p s m args meth c cc own nL ret) (K : KN own idx y host bytes maxL rt nn) (hR : rm.frames + 1 ≤ R.frames ∧ 8 + (maxL + 11) + rm.locals ≤ R.locals) : va_CN R s args own idx y host bytes maxL rt [.code y bytes maxL rt] rm rm.cells rm.slots nn ∧ (Cond.static y).before args s = true ∧ True := by
  obtain ⟨k1, k2, k4, k5, k6⟩ := K
  refine ⟨⟨⟨rfl, rfl, hR.1, hR.2, fun w hw a' U hW => ?_, List.mem_singleton.mpr rfl⟩, gw G k5 rfl, gw G k4 rfl, k6.1, fun sig h => ?_, va_Nw.use rfl (gN G k1)⟩, gw G k2 rfl, trivial⟩
  · rw [List.mem_singleton.mp hw]
    exact word_at hW (Or.inl rfl) (gw G k5 rfl)
  · have h2 := k6.2
    rw [h] at h2
    exact (Option.some.inj h2).symm
theorem p_callN (G : Gd E p s m args meth c cc own nL ret) (hB : XB E X s) {post : Option Value → Prop} {S0 : List Value} (d : decode cc pc = .ok (.invokestatic idx, 3)) (K : KN own idx y host bytes maxL rt nn) (M : CP l E y bytes maxL rt rm As post) (hn : As.length = nn) (hS : S0 = As.reverse ++ S) (hcat : (S.map fun v => v.category).sum ≤ 8) (hR : rm.frames + 1 ≤ R.frames ∧ 8 + (maxL + 11) + rm.locals ≤ R.locals) (hf : cells + rm.cells ≤ R.cells ∧ slots + rm.slots ≤ R.slots)
    (kk : ∀ r, post r → V p l e R s m args below meth c nL X (cells + rm.cells) (slots + rm.slots) Q (pc + 3) L (r.toList ++ S)) : V p l e R s m args below meth c nL X cells slots Q pc L S0 := by
  intro H locs ls hX hl
  subst hS
  exact w_back_p (gg := F0 m pc ls (As.reverse ++ S)) (va_runSN (As := As) (rest := S) ⟨G.1, G.2.1, gml G, gown G, fun w hw => absurd hw List.not_mem_nil⟩ (Ts := []) M (cn_w G K hR) ⟨blindP, fun U hU hW => ⟨rfl, hB.bse G hX hU hW⟩⟩ rfl hn hl.1 rfl (lv_room hcat) d hf) hX hl kk
-- constants of the pool
theorem v_ldc (G : Gd E p s m args meth c cc own nL ret) {v : Int32} (d : decode cc pc = .ok (.ldc idx, 2)) (hw : Cond.constant own idx v ∈ lw_tbl) (k : V p l e R s m args below meth c nL X cells slots Q (pc + 2) L (.int v :: S)) : V p l e R s m args below meth c nL X cells slots Q pc L S := fun H locs ls hX hl => lv_ldc G.1 G.2.1 (gown G) (gw G hw rfl) d (k H locs ls hX hl)
theorem v_ldc2 (G : Gd E p s m args meth c cc own nL ret) {v : Int64} (d : decode cc pc = .ok (.ldc2_w idx, 3)) (hw : Cond.constantLong own idx v ∈ lw_tbl) (k : V p l e R s m args below meth c nL X cells slots Q (pc + 3) L (.long v :: S)) : V p l e R s m args below meth c nL X cells slots Q pc L S := fun H locs ls hX hl => lv_ldc2 G.1 G.2.1 (gown G) (gw G hw rfl) d (k H locs ls hX hl)
end VC
