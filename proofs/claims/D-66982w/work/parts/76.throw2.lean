/-! methods that throw, over the picture; a table of one row -/
theorem catch1 {p : Program} {l : Launch} {e : Env} {R : Room} {s : State} {m : MethodId} {args : Array Value} {below : List Frame} {meth : Method} {c : Code} {T : State} {locs : List Loc} {cells slots : Nat} (X : Stand p l e R s m args below meth c T locs cells slots) (a : Addr) {g : JFrame} (hg : g.method = m) {own name : String} (hown : s.vm.findClass own = some m.cls)
    (x : ExceptionTableEntry) (htab : c.exceptionTable.toList = [x]) (hx : covers x g.pc = true) (h0 : x.catchType ≠ 0) (hlink : (Cond.classLink own x.catchType name).before args s = true)
    {cT : ClassId} {cell : Cell} (hcT : s.vm.findClass name = some cT) (hcell : T.heap[a]? = some cell) (hobj : cell.vm.isStatics = false) (hfit : s.vm.assignable cell.cls cT = true) :
    ∃ vm', Stand p l e R s m args below meth c (T.setVm vm') locs cells slots ∧ ∀ target, Steps p.tables e below ((T.setVm vm').setTop { g with pc := x.handlerPc, stack := [.ref a] }) target → Steps p.tables e below ((T.setTop g).pushFrame (.throwing a)) target := by
  obtain ⟨c', hc', hcl⟩ := Cond.classLink_spec hown hlink e.platform (by rw [X.admits.platform])
  cases hcT.symm.trans hc'
  have hclT := X.warmed.classLinks hcl
  obtain ⟨dk, _, _, kt, hd, _, _, _, _, hkt, _, hopen⟩ := hcl.here
  obtain ⟨kt', hkt', -⟩ := X.warmed.alike.2.2 _ _ hkt
  have hfitT : T.vm.assignable cell.cls cT = true := by rw [X.warmed.alike.assignable]; exact hfit
  obtain ⟨kc, hkc⟩ := Vm.classAt_of_assignable hfitT ⟨kt', hkt'⟩
  have hal : T.vm.Alike (T.vm.noted m.cls x.catchType (.cls cT)) := (Vm.Alike.refl T.vm).noted _ _ _
  obtain ⟨k1, hk1, -⟩ := hal.2.2 _ _ hkc
  obtain ⟨k2, hk2, -⟩ := hal.2.2 _ _ hkt'
  have hfit2 : (T.vm.noted m.cls x.catchType (.cls cT)).assignable cell.cls cT = true := by rw [hal.assignable]; exact hfitT
  have hns := VmData.ne_statics_of hobj
  refine ⟨T.vm.noted m.cls x.catchType (.cls cT), X.noted (X.warmed.noted hd hopen (State.rightAt_cls hcl)), fun target hrest => ?_⟩
  subst hg
  obtain ⟨hgo, hw⟩ := X.here.throwing (g := g) a
  refine Steps.head hgo hw ?_
  rw [stepThread_throwing (frames_entered X.here.top _)]
  have hfind : ∀ (Q : Handler → Bool → List Action → State → Prop) (E : CtlPost) (d : Bool) (acts : List Action), wp (findHandler g a) Q E e d acts ((T.setTop g).pushFrame (.throwing a)) ↔ Q (.found x.handlerPc) d acts (((T.setTop g).pushFrame (.throwing a)).setVm (T.vm.noted g.method.cls x.catchType (.cls cT))) := by
    intro Q E d acts
    rw [W.findHandler_eq (s := (T.setTop g).pushFrame (.throwing a)) (meth := meth) (code := c) (by rw [Stand.throwing_vm]; exact X.method') X.code, htab]
    obtain ⟨h1, h2⟩ := (resolveClass_links e.toSetting hclT).op (op := VmOp.resolveClass g.method.cls x.catchType) rfl
    have hv : ((T.setTop g).pushFrame (.throwing a)).vm = T.vm := Stand.throwing_vm T g a
    have hh : ((T.setTop g).pushFrame (.throwing a)).heap[a]? = some cell := by rw [Stand.throwing_heap]; exact hcell
    simp only [covers] at hx
    simp [findHandler.go, hx, h0, hv, h1, h2, hh, hns, hk1, hk2, hfit2, VmOp.dirties, VmOp.acts]
  have hstep : (stepThrowing e ((T.setTop g).pushFrame (.throwing a)) a (.java g :: T.frames.tail)).Is ((((T.setTop g).pushFrame (.throwing a)).setVm (T.vm.noted g.method.cls x.catchType (.cls cT))).setFrames (.java { g with pc := x.handlerPc, stack := [.ref a] } :: below)) [] := by
    obtain ⟨g₀, hr⟩ := X.frames_eq
    rw [hr, List.tail_cons]
    simp only [stepThrowing, searchFrame, vmDo]
    generalize hrr : Sem.go _ e false [] _ = res
    obtain ⟨as, rfl, ha⟩ := Sem.eq_ok_of hrr (a := Handler.found x.handlerPc) (s' := ((T.setTop g).pushFrame (.throwing a)).setVm (T.vm.noted g.method.cls x.catchType (.cls cT))) (acts' := []) (by simp [hfind])
    exact ⟨rfl, ha⟩
  rw [hstep.1]
  obtain ⟨g₀, hr⟩ := X.frames_eq
  have hr' : (T.setVm (T.vm.noted g.method.cls x.catchType (.cls cT))).frames = .java g₀ :: below := hr
  rw [State.setTop_of_frames _ hr'] at hrest
  have hfin : (((T.setTop g).pushFrame (.throwing a)).setVm (T.vm.noted g.method.cls x.catchType (.cls cT))).setFrames (.java { g with pc := x.handlerPc, stack := [.ref a] } :: below) = (T.setVm (T.vm.noted g.method.cls x.catchType (.cls cT))).setFrames (.java { g with pc := x.handlerPc, stack := [.ref a] } :: below) := by
    rw [State.setTop_of_frames _ hr]
    show ((((T.setFrames (.java g :: below)).setFrames _).setFrames _).setVm _) = _
    rw [State.setFrames_setFrames, State.setFrames_setFrames]
    rfl
  rw [hfin]
  exact hrest
abbrev PostT : Type := (Nat → Nat) → (Nat → Nat → Int32) → (Nat → Nat → Int32) → (Nat → Nat) → Value → Prop
def QTh (E : Bs) (DO DA : Nat → Prop) (Th : Addr → Heap → Prop) (post : PostT) : Array Value → State → Addr → State → Prop := fun _ st x t => (∃ ρ' g' A' n' tx', post ρ' g' A' n' tx' ∧ Wd E DO DA ρ' g' A' n' tx' t.heap) ∧ Th x t.heap ∧ st.heap.size ≤ x ∧ va_F E.F st t
/-- the contract of a method that throws -/
def CTh (l : Launch) (E : Bs) (DO DA : Nat → Prop) (Th : Addr → Heap → Prop) (y : MethodName) (bytes : ByteArray) (maxL : Nat) (ret : Option FieldType) (rm : Room) (av : List Value) (ρ : Nat → Nat) (g A : Nat → Nat → Int32) (n : Nat → Nat) (tx : Value) (post : PostT) : Prop :=
  MetT l y [.code y bytes maxL ret] rm (va_Pc av (fun U => Bse E U ∧ Wd E DO DA ρ g A n tx U.heap)) (QTh E DO DA Th post) rm.cells rm.slots E.F
section VTH
variable {E : Bs} {p : Program} {l : Launch} {e : Env} {R : Room} {s : State} {m : MethodId} {args : Array Value} {below : List Frame} {meth : Method} {c : Code} {cc : ByteArray} {own : String} {nL : Nat} {ret : Option FieldType} {cells slots : Nat} {Q : State → Prop} {pc : Nat} {L : List (Option Value)} {S : List Value}
variable {DO DA : Nat → Prop} {ρ : Nat → Nat} {g A : Nat → Nat → Int32} {n : Nat → Nat} {tx : Value} {H : Heap} {locs : List Loc} {ls : Array Slot}
variable {y : MethodName} {bytes : ByteArray} {maxL idx nn : Nat} {rt : Option FieldType} {rm : Room} {As : List Value} {Th : Addr → Heap → Prop}
theorem CTh.start {av : List Value} {post : PostT} (L0 : List (Option Value)) (hE : Hb E) (hy : plainName y.cls = true) (hl : (entL av).length ≤ maxL) (hL : entL0 av maxL = L0) (hc : Cond.code y bytes maxL rt ∈ lw_tbl)
    (body : ∀ p e s m args below meth c, Gd E p s m args meth c bytes y.cls maxL rt → c.exceptionTable.isEmpty = true → V p l e rm s m args below meth c maxL (Sy E DO DA s.heap ρ g A n tx) 0 0 (MQT below (QTh E DO DA Th post) args s rm.cells rm.slots E.F) 0 L0 []) : CTh l E DO DA Th y bytes maxL rt rm av ρ g A n tx post := by
  refine MetT.ofW (cc := bytes) (maxL := maxL) (ret := rt) hy rfl ?_
  intro p e s m args below meth c s₁ B hml hv
  obtain ⟨rfl, ⟨hW, hBel, hF⟩, hWd⟩ := hv
  have hown : s.vm.findClass y.cls = some m.cls := findClass_of_methodNamed B.named
  have G : Gd E p s m av.toArray meth c bytes y.cls maxL rt := ⟨B.exec, B.bytes, hml, hown, B.returns, B.notSynchronized, hE, hW, hBel, hF⟩
  rw [lg_entry_eq]
  exact body p e s m av.toArray below meth c G (B.noHandlers (gw G hc rfl)) s.heap [] _ ⟨hWd, va_S.rf⟩ (hL ▸ LH_entry av hl)
theorem w_backT {post : PostT} {mc ms : Nat} {st0 : List Value} {a : Array Value} (hr : RunT p l e R s m args below meth c H locs cells slots mc ms (F0 m pc ls st0) S (QTh E DO DA Th post a) E.F) (hX : Sy E DO DA s.heap ρ g A n tx H locs)
    (T : State) (hT : T.heap = H) (Y : Stand p l e R s m args below meth c T locs cells slots) : ∃ (x : Addr) (T' : State) (Lo : List Loc) (ρ' : Nat → Nat) (g' A' : Nat → Nat → Int32) (n' : Nat → Nat) (tx' : Value), post ρ' g' A' n' tx' ∧ Stand p l e R s m args below meth c T' (locs ++ Lo) (cells + mc) (slots + ms) ∧ Sy E DO DA s.heap ρ' g' A' n' tx' T'.heap (locs ++ Lo) ∧ Th x T'.heap ∧ H.size ≤ x ∧
      ∀ target, Steps p.tables e below ((T'.setTop (F0 m pc ls S)).pushFrame (.throwing x)) target → Steps p.tables e below (T.setTop (F0 m pc ls st0)) target := by
  obtain ⟨x, st₀, t, T', Lo, h0, X', hL, e1, ⟨⟨ρ', g', A', n', tx', hp, hb⟩, hTh, hsz, hz, hk⟩, st⟩ := hr T hT Y
  rw [h0] at hz hk hsz
  refine ⟨x, T', Lo, ρ', g', A', n', tx', hp, X', ⟨by rw [e1]; exact hb, Nat.le_trans hX.2.1 (by rw [e1]; exact hz), fun q h1 h2 => by rw [e1, hk q (Nat.lt_of_lt_of_le h1 hX.2.1) h2]; exact hX.2.2.1 q h1 h2, fun q hq => ?_⟩, by rw [e1]; exact hTh, hsz, st⟩
  rcases List.mem_append.mp hq with h | h
  · exact hX.2.2.2 q h
  · exact hL q h
theorem w_out {post : PostT} {T' : State} {lo : List Loc} {c2 s2 MC MS : Nat} {x : Addr} (G : Gd E p s m args meth c cc own nL ret) (hne : c.exceptionTable.isEmpty = true) (X' : Stand p l e R s m args below meth c T' lo c2 s2) (hSy : Sy E DO DA s.heap ρ g A n tx T'.heap lo) (hTh : Th x T'.heap) (hp : post ρ g A n tx) (hx : s.heap.size ≤ x) (h1 : c2 ≤ MC) (h2 : s2 ≤ MS) :
    ∃ t, Steps p.tables e below ((T'.setTop (F0 m pc ls S)).pushFrame (.throwing x)) t ∧ MQT below (QTh E DO DA Th post) args s MC MS E.F t := by
  obtain ⟨w1, w2, w3, w4, w5⟩ := X'.leaveThrown x (g := F0 m pc ls S) rfl rfl rfl (covers_of_empty hne _) (glk G)
  exact ⟨_, w1, x, w2, w3, ⟨⟨ρ, g, A, n, tx, hp, hSy.1⟩, hTh, hx, hSy.2.F rfl⟩, lo, ⟨w4, w5.weaken (fun y hy _ => hy) h1 h2⟩, fun q hq => hSy.2.2.2 q hq⟩
/-- a call that throws, and nothing here catches it -/
theorem v_throwS (G : Gd E p s m args meth c cc own nL ret) (hne : c.exceptionTable.isEmpty = true) {post post2 : PostT} {S0 : List Value} {MC MS : Nat} (d : decode cc pc = .ok (.invokestatic idx, 3)) (K : KS own idx y bytes maxL rt nn) (M : CTh l E DO DA Th y bytes maxL rt rm As ρ g A n tx post) (hn : As.length = nn) (hS : S0 = As.reverse ++ S) (hcat : (S.map fun v => v.category).sum ≤ 8) (hR : rm.frames + 1 ≤ R.frames ∧ 8 + (maxL + 11) + rm.locals ≤ R.locals) (hf : cells + rm.cells ≤ R.cells ∧ slots + rm.slots ≤ R.slots)
    (h1 : cells + rm.cells ≤ MC) (h2 : slots + rm.slots ≤ MS) (hp : ∀ ρ' g' A' n' tx', post ρ' g' A' n' tx' → post2 ρ' g' A' n' tx') : V p l e R s m args below meth c nL (Sy E DO DA s.heap ρ g A n tx) cells slots (MQT below (QTh E DO DA Th post2) args s MC MS E.F) pc L S0 := by
  intro H locs ls hX hl T hT Y
  subst hS
  obtain ⟨k1, k2, k4, k5, k6⟩ := K
  obtain ⟨x, T', Lo, ρ', g', A', n', tx', hpp, X', hSy, hTh, hsz, st⟩ := w_backT (runTS (As := As) (rest := S) (g := F0 m pc ls (As.reverse ++ S)) ⟨G.1, G.2.1, gml G, gown G, fun w hw => absurd hw List.not_mem_nil⟩ (Ts := []) M ⟨callB_w G k1 k4 k5 k6 hR, gw G k2 rfl⟩ ⟨blindW, fun U hU hW => ⟨rfl, Sy.bse G hX hU hW, by rw [hU]; exact hX.1⟩⟩ rfl hn hl.1 rfl (lv_room hcat) d hf) hX T hT Y
  obtain ⟨t, w1, w2⟩ := w_out (post := post2) (ls := ls) (S := S) (pc := pc) G hne X' hSy hTh (hp _ _ _ _ _ hpp) (Nat.le_trans hX.2.1 hsz) h1 h2
  exact ⟨t, st t w1, w2⟩
end VTH
