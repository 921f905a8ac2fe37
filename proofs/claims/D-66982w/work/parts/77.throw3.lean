/-! methods that throw: calls of objects' methods, catching; contracts of methods that have a table -/
section VTH3
variable {E : Bs} {p : Program} {l : Launch} {e : Env} {R : Room} {s : State} {m : MethodId} {args : Array Value} {below : List Frame} {meth : Method} {c : Code} {cc : ByteArray} {own : String} {nL : Nat} {ret : Option FieldType} {cells slots : Nat} {Q : State → Prop} {pc : Nat} {L : List (Option Value)} {S : List Value}
variable {DO DA : Nat → Prop} {ρ : Nat → Nat} {g A : Nat → Nat → Int32} {n : Nat → Nat} {tx : Value} {H : Heap} {locs : List Loc} {ls : Array Slot}
variable {y : MethodName} {bytes : ByteArray} {maxL idx nn : Nat} {rt : Option FieldType} {rm : Room} {As : List Value} {Th : Addr → Heap → Prop}
theorem runTo (G : Gd E p s m args meth c cc own nL ret) {post : PostT} {k : Nat} (d : decode cc pc = .ok (.invokevirtual idx, 3)) (K : KV own idx y bytes maxL rt nn) (M : CTh l E DO DA Th y bytes maxL rt rm (.ref (E.o k) :: As) ρ g A n tx post) (hk : DO k) (hC : y.cls = CN k) (hn : As.length = nn) (hcat : (S.map fun v => v.category).sum ≤ 8) (hR : rm.frames + 1 ≤ R.frames ∧ 8 + (maxL + 11) + rm.locals ≤ R.locals) (hf : cells + rm.cells ≤ R.cells ∧ slots + rm.slots ≤ R.slots) (hX : Sy E DO DA s.heap ρ g A n tx H locs) (hl : LH ls nL L) :
    RunT p l e R s m args below meth c H locs cells slots rm.cells rm.slots (F0 m pc ls (As.reverse ++ .ref (E.o k) :: S)) S (QTh E DO DA Th post (Value.ref (E.o k) :: As).toArray) E.F := by
  obtain ⟨k1, k2, k3, k4, k5, k6⟩ := K
  refine runTV (C := y.cls) (b := E.o k) (As := As) (rest := S) ⟨G.1, G.2.1, gml G, gown G, fun w hw => absurd hw List.not_mem_nil⟩ (Ts := []) M ⟨callB_w G k1 k4 k5 k6 hR, gw G k2 rfl, gw G k3 rfl⟩ ⟨blindW, ?_, fun U hU hW => ⟨rfl, Sy.bse G hX hU hW, by rw [hU]; exact hX.1⟩⟩ rfl hn hl.1 rfl (lv_room hcat) d hf
  obtain ⟨hk7, ⟨cell, q1, q2, q3, -⟩, -⟩ := hX.1.1 k hk
  have := ((gK G).1 k _ (cls_at k hk7)).2.1
  exact ⟨cell, q1, by rw [q3]; rfl, by rw [hC, q2]; exact this⟩
theorem v_throwV (G : Gd E p s m args meth c cc own nL ret) (hne : c.exceptionTable.isEmpty = true) {post post2 : PostT} {k : Nat} {S0 : List Value} {MC MS : Nat} (d : decode cc pc = .ok (.invokevirtual idx, 3)) (K : KV own idx y bytes maxL rt nn) (M : CTh l E DO DA Th y bytes maxL rt rm (.ref (E.o k) :: As) ρ g A n tx post) (hk : DO k) (hC : y.cls = CN k) (hn : As.length = nn) (hS : S0 = As.reverse ++ .ref (E.o k) :: S) (hcat : (S.map fun v => v.category).sum ≤ 8) (hR : rm.frames + 1 ≤ R.frames ∧ 8 + (maxL + 11) + rm.locals ≤ R.locals) (hf : cells + rm.cells ≤ R.cells ∧ slots + rm.slots ≤ R.slots)
    (h1 : cells + rm.cells ≤ MC) (h2 : slots + rm.slots ≤ MS) (hp : ∀ ρ' g' A' n' tx', post ρ' g' A' n' tx' → post2 ρ' g' A' n' tx') : V p l e R s m args below meth c nL (Sy E DO DA s.heap ρ g A n tx) cells slots (MQT below (QTh E DO DA Th post2) args s MC MS E.F) pc L S0 := by
  intro H locs ls hX hl T hT Y
  subst hS
  obtain ⟨x, T', Lo, ρ', g', A', n', tx', hpp, X', hSy, hTh, hsz, st⟩ := w_backT (runTo G d K M hk hC hn hcat hR hf hX hl) hX T hT Y
  obtain ⟨t, w1, w2⟩ := w_out (post := post2) (ls := ls) (S := S) (pc := pc) G hne X' hSy hTh (hp _ _ _ _ _ hpp) (Nat.le_trans hX.2.1 hsz) h1 h2
  exact ⟨t, st t w1, w2⟩
/-- a call that throws, and what it throws is caught here -/
theorem v_catchV (G : Gd E p s m args meth c cc own nL ret) {post : PostT} {k : Nat} {S0 : List Value} {a0 b0 hpc ct : Nat} {name : String} (htab : c.exceptionTable.toList.map (fun h => (h.startPc, h.endPc, h.handlerPc, h.catchType)) = [(a0, b0, hpc, ct)]) (hcov : a0 ≤ pc ∧ pc < b0) (h0 : ct ≠ 0) (hlink : Cond.classLink own ct name ∈ lw_tbl) (hcast : Cond.castable name name ∈ lw_tbl)
    (d : decode cc pc = .ok (.invokevirtual idx, 3)) (K : KV own idx y bytes maxL rt nn) (M : CTh l E DO DA Th y bytes maxL rt rm (.ref (E.o k) :: As) ρ g A n tx post) (hk : DO k) (hC : y.cls = CN k) (hn : As.length = nn) (hS : S0 = As.reverse ++ .ref (E.o k) :: S) (hcat : (S.map fun v => v.category).sum ≤ 8) (hR : rm.frames + 1 ≤ R.frames ∧ 8 + (maxL + 11) + rm.locals ≤ R.locals) (hf : cells + rm.cells ≤ R.cells ∧ slots + rm.slots ≤ R.slots)
    (hTh : ∀ x H, Th x H → ∃ cell : Cell, H[x]? = some cell ∧ cell.vm.isStatics = false ∧ E.S.vm.findClass name = some cell.cls)
    (kk : ∀ (x : Addr) ρ' g' A' n' tx', post ρ' g' A' n' tx' → (∀ k, DO k → E.o k ≠ x) → V p l e R s m args below meth c nL (fun H' locs' => Sy E DO DA s.heap ρ' g' A' n' tx' H' locs' ∧ Th x H') (cells + rm.cells) (slots + rm.slots) Q hpc L [.ref x]) : V p l e R s m args below meth c nL (Sy E DO DA s.heap ρ g A n tx) cells slots Q pc L S0 := by
  intro H locs ls hX hl T hT Y
  subst hS
  obtain ⟨x, T', Lo, ρ', g', A', n', tx', hpp, X', hSy, hTh', hsz, st⟩ := w_backT (runTo G d K M hk hC hn hcat hR hf hX hl) hX T hT Y
  obtain ⟨cell, hc1, hc2, hc3⟩ := hTh x T'.heap hTh'
  have hc4 : s.vm.findClass name = some cell.cls := by rw [(gW G).alike.findClass]; exact hc3
  obtain ⟨⟨aa, hwt, -⟩, -⟩ : Hb E := G.2.2.2.2.2.2.1
  obtain ⟨c3, c4, q1, q2, hasg0⟩ := Cond.castable_spec (hwt _ hcast)
  cases Option.some.inj (q1.symm.trans hc3)
  cases Option.some.inj (q2.symm.trans hc3)
  have hasg : s.vm.assignable cell.cls cell.cls = true := by rw [(gW G).alike.assignable]; exact hasg0
  have hne : ∀ k, DO k → E.o k ≠ x := fun k hk => by
    obtain ⟨-, ⟨cell, q1, -⟩, -⟩ := hX.1.1 k hk
    have := (Array.getElem?_eq_some_iff.mp q1).1
    omega
  cases ht : c.exceptionTable.toList with
  | nil => rw [ht] at htab; cases htab
  | cons en r =>
    cases r with
    | cons _ _ => rw [ht] at htab; cases htab
    | nil =>
      rw [ht] at htab
      have htab2 : [(en.startPc, en.endPc, en.handlerPc, en.catchType)] = [(a0, b0, hpc, ct)] := htab
      cases htab2
      obtain ⟨vm', X2, st2⟩ := catch1 X' x (g := F0 m pc ls S) rfl (gown G) en ht (by simp [covers]; exact hcov) h0 (gw G hlink rfl) hc4 hc1 hc2 hasg
      obtain ⟨t, a1, b1⟩ := kk x ρ' g' A' n' tx' hpp hne T'.heap (locs ++ Lo) ls ⟨hSy, hTh'⟩ hl (T'.setVm vm') rfl X2
      exact ⟨t, st t (st2 t a1), b1⟩
/-- the contract of a method that has a table -/
def CWW (l : Launch) (E : Bs) (DO DA : Nat → Prop) (y : MethodName) (bytes : ByteArray) (maxL : Nat) (ret : Option FieldType) (hh : List (Nat × Nat × Nat × Nat)) (rm : Room) (av : List Value) (ρ : Nat → Nat) (g A : Nat → Nat → Int32) (n : Nat → Nat) (tx : Value) (post : Post) : Prop :=
  Met l y [.codeWith y bytes maxL ret hh] rm (va_Pc av (fun U => Bse E U ∧ Wd E DO DA ρ g A n tx U.heap)) (QW E DO DA post) rm.cells rm.slots E.F
theorem CWW.start {hh : List (Nat × Nat × Nat × Nat)} {av : List Value} {post : Post} (L0 : List (Option Value)) (hE : Hb E) (hy : plainName y.cls = true) (hl : (entL av).length ≤ maxL) (hL : entL0 av maxL = L0) (hc : Cond.codeWith y bytes maxL rt hh ∈ lw_tbl)
    (body : ∀ p e s m args below meth c, Gd E p s m args meth c bytes y.cls maxL rt → c.exceptionTable.toList.map (fun h => (h.startPc, h.endPc, h.handlerPc, h.catchType)) = hh → V p l e rm s m args below meth c maxL (Sy E DO DA s.heap ρ g A n tx) 0 0 (MQ below (QW E DO DA post) args s rm.cells rm.slots E.F) 0 L0 []) : CWW l E DO DA y bytes maxL rt hh rm av ρ g A n tx post := by
  refine va_MetW (cc := bytes) (maxL := maxL) (ret := rt) (hh := hh) hy rfl ?_
  intro p e s m args below meth c s₁ B hml hv
  obtain ⟨rfl, ⟨hW, hBel, hF⟩, hWd⟩ := hv
  have hown : s.vm.findClass y.cls = some m.cls := findClass_of_methodNamed B.named
  have G : Gd E p s m av.toArray meth c bytes y.cls maxL rt := ⟨B.exec, B.bytes, hml, hown, B.returns, B.notSynchronized, hE, hW, hBel, hF⟩
  obtain ⟨m9, meth9, c9, hn9, h1, h2, -, -, h5, -⟩ := Cond.codeWith_spec (gw G hc rfl)
  cases B.named.symm.trans hn9
  cases B.method.symm.trans h1
  cases (Stand.of_body B).code.symm.trans h2
  rw [lg_entry_eq]
  exact body p e s m av.toArray below meth c G h5 s.heap [] _ ⟨hWd, va_S.rf⟩ (hL ▸ LH_entry av hl)
end VTH3
