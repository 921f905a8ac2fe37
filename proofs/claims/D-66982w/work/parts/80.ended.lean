/-! RowCode.Ended: its constructor -/
def EnCell (E : Bs) (h : Int32) (cell : Cell) : Prop := cell.vm = .none ∧ E.S.vm.findClass "RowCode$Ended" = some cell.cls ∧ ∃ cf k i f, E.S.fieldFound? "RowCode$Ended" "how" "I" = some (cf, k, i, f) ∧ f.isStatic = false ∧ cell.slots[f.slot]? = some (.int h)
def EnPre (E : Bs) (a : Nat) (U : State) : Prop := Bse E U ∧ ∃ cE kE, U.vm.findClass "RowCode$Ended" = some cE ∧ U.vm.classes[cE]? = some kE ∧ kE.kind = .ordinary ∧ kE.instanceTypes.size = 7 ∧ U.heap[a]? = some (freshCell cE kE)
def EnQ (E : Bs) (a : Nat) (h : Int32) : Array Value → State → Outcome → State → Prop := fun _ st o t => o = .returned none ∧ ∃ cell, t.heap = st.heap.setIfInBounds a cell ∧ EnCell E h cell
theorem c_EN_init (l : Launch) (hNT : NT l) {E : Bs} (hE : Hb E) {a : Nat} {h : Int32} : Met l y_EN_init [.code y_EN_init b_EN_init 2 none] ({ frames := 5, cells := 0, slots := 0, locals := 70 } : Room) (va_Pc [.ref a, .int h] (EnPre E a)) (EnQ E a h) 0 0 (fun q => q = a) := by
  refine Met.ofW (cc := b_EN_init) (maxL := 2) (ret := none) (by decide) rfl ?_
  intro p e s m args below meth c s₁ B hml hv
  obtain ⟨rfl, ⟨hW, hBel, hF⟩, cE, kE, q1, q2, q3, q4, q5⟩ := hv
  have hown : s.vm.findClass y_EN_init.cls = some m.cls := findClass_of_methodNamed B.named
  have G : Gd E p s m [.ref a, .int h].toArray meth c b_EN_init "RowCode$Ended" 2 none := ⟨B.exec, B.bytes, hml, hown, B.returns, B.notSynchronized, hE, hW, hBel, hF⟩
  have hname : meth.name = "<init>" := (name_of_methodNamed B.named B.method).1
  rw [lg_entry_eq]
  have hLH := LH_entry [.ref a, .int h] (n := 2) (Nat.le_of_ble_eq_true rfl)
  generalize (lg_sl [.ref a, .int h] ++ List.replicate (2 - (lg_sl [.ref a, .int h]).length) Slot.unset).toArray = ls at hLH ⊢
  refine lv_aload_n G.1 G.2.1 (decAt dd_EN_init 0 rfl) rfl (hLH.2.2 0 _ rfl) ?_
  intro T hT X
  have howns : e.platform.frameOwnsMonitors = true := by rw [X.admits.platform]
  have hfin : e.platform.finalization = false := by rw [X.admits.platform]
  have hpl : e.platform.magicAccessors = ({} : Platform).magicAccessors := by rw [X.admits.platform]
  obtain ⟨TT, Z, LL, LZ, Y⟩ := ThrowableC.of_atoms (args := [Value.ref a, .int h].toArray) howns hfin hpl (thr_at G)
  obtain ⟨P1, Ps, hlen, L1, hLs, hP1m, hlink1, hlink⟩ := Bundle.chain0 (args := [Value.ref a, .int h].toArray) hpl Y.init0 ["java/lang/Exception"] "java/lang/RuntimeException" (by decide) (by decide) (ch_rt G)
  have hsel0 : selectMethod e.platform s.vm cE TT.fill0 = .method TT.fill0 := by
    obtain ⟨c2, r2, m2, w1, w2, w3, w4, -⟩ := Cond.selects_spec (gw G tm_659 rfl)
    cases Option.some.inj (w1.symm.trans q1)
    cases Option.some.inj (w2.symm.trans (State.methodFound?_of_named Y.fill0 (by decide)))
    cases Option.some.inj (w3.symm.trans Y.fill0)
    rw [Launch.admits_selectMethod X.admits]; exact w4
  have hselF : selectMethod e.platform s.vm cE TT.fill = .method TT.fill := by
    obtain ⟨c2, r2, m2, w1, w2, w3, w4, -⟩ := Cond.selects_spec (gw G tm_660 rfl)
    cases Option.some.inj (w1.symm.trans q1)
    cases Option.some.inj (w2.symm.trans (State.methodFound?_of_named Y.fill (by decide)))
    cases Option.some.inj (w3.symm.trans Y.fill)
    rw [Launch.admits_selectMethod X.admits]; exact w4
  obtain ⟨cellS, hcS, hiss⟩ := Y.statics
  obtain ⟨-, -, -, z1, z2⟩ := (gH G).2.2.2.1
  obtain ⟨u0, hu0⟩ := Cond.staticRefV Y.unassigned LL.unassignedStatic LL.statics hcS hiss (Zq_ref (args := [Value.ref a, .int h].toArray) (gZq G z1))
  obtain ⟨sen, hsen⟩ := Cond.staticRefV Y.sentinel LL.sentinelStatic LL.statics hcS hiss (Zq_ref (args := [Value.ref a, .int h].toArray) (gZq G z2))
  obtain ⟨ci198, i198, fB, hk198, hg198, ha198, hsB, -, hnB, htB, hffB⟩ := Cond.ownField (t := .object "java/lang/Object") Y.found LL.cls (by decide +kernel) (gw G tm_671 rfl) (gw G tm_670 rfl) e.platform hpl
  have hcell : T.heap[a]? = some (freshCell cE kE) := by rw [hT]; exact q5
  have hcellS : T.heap[TT.aS]? = some cellS := by rw [hT]; exact hcS
  have hneS : TT.aS ≠ a := fun z => by
    rw [z] at hcS
    rw [q5] at hcS
    cases hcS
    cases hiss
  have hknownS : cellS.vm ≠ .unknown := fun hu => by rw [hu] at hiss; cases hiss
  obtain ⟨iM, hffM⟩ := Y.msg
  obtain ⟨tyC, dC, hdC, hdnC⟩ := Cond.laysAt q1 q2 Y.cause (gw G tm_661 rfl)
  obtain ⟨tyS, dS, hdS, hdnS⟩ := Cond.laysAt q1 q2 Y.stack (gw G tm_663 rfl)
  obtain ⟨tyP, dP, hdP, hdnP⟩ := Cond.laysAt q1 q2 Y.supp (gw G tm_665 rfl)
  obtain ⟨tyB, dB, hdB, hdnB⟩ := Cond.laysAt q1 q2 hffB (gw G tm_669 rfl)
  have bC := Cond.laysApart hdB hdC hdnB hdnC (by rw [hnB, Y.causeName]; decide)
  have bS := Cond.laysApart hdB hdS hdnB hdnS (by rw [hnB, Y.stackName]; decide)
  have bP := Cond.laysApart hdB hdP hdnB hdnP (by rw [hnB, Y.suppName]; decide)
  have hskip : SkipFacts TT e.platform s (fun u => u) u0 ((preparedCellV TT.toThrowableT (freshCell cE kE) a u0 sen).withEntry T.cur) :=
    ⟨{ ci198 := ci198, i198 := i198, fBack := fB }, ⟨hk198, hg198, ha198, hsB⟩, by
      have := fresh_default (c := cE) tyB
      rw [htB] at this
      simpa [preparedCellV, Cell.setSlot, Cell.withEntry, Array.getElem?_setIfInBounds, bC, bS, bP, bC.symm, bS.symm, bP.symm, defaultValue] using this, fun _ _ => rfl⟩
  obtain ⟨tm, methC, cdC, kC, vm₁, hnC, -, -, -, -, -, -, -, hW₁, st1⟩ := Steps.initCold (tb := p.tables) (e := e) (below := below) (s := s) (U := T) X.here G.1 X.warmed hpl (gown G) (idx := 1) (t := Bundle.init0 "java/lang/RuntimeException") rfl rfl ⟨by decide, by decide⟩
    (gw G tm_693 rfl) (gw G tm_694 rfl) (bytes := Bundle.five) (maxL := 1) (gw G tm_695 rfl) (f := F0 m 1 ls [.ref a]) rfl (a := a) (rest := []) rfl (by rw [G.2.1]; exact decAt dd_EN_init 1 rfl)
  cases Option.some.inj (hnC.symm.trans hP1m)
  have X₁ := X.noted hW₁
  obtain ⟨vm₂, X₂, st2⟩ := X₁.ctorPlainOffV G.1 (g := F0 m 1 ls []) rfl (hLH.1.trans (gml G).symm) TT LL Z LZ (P1 :: Ps)
    (fun P hP => by rcases List.mem_cons.mp hP with rfl | hP; exact L1; exact hLs P hP) ⟨hlink1, hlink⟩ (u0 := u0) (sen := sen) (self := a) (cell := freshCell cE kE) (cellS := cellS)
    hcell (fun _ => by simp) (by simp) rfl rfl hsel0 hselF hcellS hneS hknownS hu0 hsen
    (Takes.of_laid q2 q3 tyC (by rw [Y.causeType]; rfl)) (Takes.of_laid q2 q3 tyS (by rw [Y.stackType]; exact fits_refV_array _ u0)) (Takes.of_laid q2 q3 tyP (by rw [Y.suppType]; exact fits_refV_object _ sen)) Y.objLocals hskip (hNT e X.admits) [] (by rw [G.2.1]; exact decAt dd_EN_init 1 rfl)
    (by simp only [List.length_cons, hlen]; decide) (by simp only [List.length_cons, hlen]; decide)
  -- the field
  obtain ⟨c5, k5, cf, kf, i5, f5, w1, w2, w3, w4, w5, w6, w7, w8, -⟩ := Cond.laysFinal_spec (gw G tm_706 rfl)
  cases Option.some.inj (w1.symm.trans q1)
  cases Option.some.inj (w2.symm.trans q2)
  have hcf : m.cls = cf := Option.some.inj ((gown G).symm.trans w7)
  have hty : f5.type = .int := (State.fieldFound?_type w3 (t := .int) (by decide +kernel)).2
  have hlt5 : f5.slot < kE.instanceTypes.size := (Array.getElem?_eq_some_iff.mp w8).1
  have hT5 := Takes.of_laid (v := .int h) q2 q3 w8 (by rw [hty]; rfl)
  generalize hcl : (preparedCellV TT.toThrowableT (freshCell cE kE) a u0 sen).setSlot TT.fStack.slot u0.v = cl at X₂ st2
  have hclc : cl.cls = cE := by rw [← hcl]; rfl
  have hclv : cl.vm = .none := by rw [← hcl]; rfl
  have hcls : cl.slots.size = kE.instanceTypes.size := by rw [← hcl]; simp [preparedCellV, Cell.setSlot]
  have halt : a < T.heap.size := (Array.getElem?_eq_some_iff.mp hcell).1
  have hH : (((T.setVm vm₁).setVm vm₂).setCell a cl).heap = s.heap.setIfInBounds a cl := by show T.heap.setIfInBounds a cl = _; rw [hT]
  have hq1 : ∀ t : State, t.heap = (s.heap.setIfInBounds a cl).setIfInBounds a (cl.setSlot f5.slot (.int h)) → s.WarmedH t.vm → EnQ E a h [Value.ref a, .int h].toArray s (.returned none) t := by
    intro t ht _
    refine ⟨rfl, cl.setSlot f5.slot (.int h), by rw [ht]; simp, hclv, ?_, ?_⟩
    · show E.S.vm.findClass "RowCode$Ended" = some cl.cls
      rw [hclc, ← (gW G).alike.findClass]
      exact q1
    · obtain ⟨⟨a0, hw, -⟩, -⟩ := hE
      obtain ⟨c6, k6, cf6, kf6, i6, f6, v1, v2, v3, v4, -⟩ := Cond.laysFinal_spec (hw _ tm_706)
      obtain ⟨k', hi', he⟩ := State.fieldFound?_setVm (gW G).alike v3
      have hi : s.fieldFound? "RowCode$Ended" "how" "I" = some (cf6, k', i6, f6) := hi'
      rw [w3] at hi
      cases hi
      exact ⟨cf, kf6, i5, f5, v3, v4, by simp [Cell.setSlot, hcls, hlt5]⟩
  have hq2 : ∀ q ∈ ([] ++ [(⟨a, TT.fCause.slot⟩ : Loc), ⟨a, TT.fStack.slot⟩, ⟨a, TT.fSupp.slot⟩, ⟨a, TT.fStack.slot⟩]) ++ [⟨a, f5.slot⟩], q.base = a := by
    intro q hq
    simp only [List.nil_append, List.mem_append, List.mem_cons, List.not_mem_nil, or_false] at hq
    rcases hq with (rfl | rfl | rfl | rfl) | rfl <;> rfl
  have kk : W p l e ({ frames := 5, cells := 0, slots := 0, locals := 70 } : Room) s m [Value.ref a, .int h].toArray below meth c (s.heap.setIfInBounds a cl) ([] ++ [⟨a, TT.fCause.slot⟩, ⟨a, TT.fStack.slot⟩, ⟨a, TT.fSupp.slot⟩, ⟨a, TT.fStack.slot⟩]) 0 0 (MQ below (EnQ E a h) [Value.ref a, .int h].toArray s 0 0 (fun q => q = a)) (F0 m 4 ls []) := by
    refine lv_aload_n G.1 G.2.1 (decAt dd_EN_init 2 rfl) rfl (hLH.2.2 0 _ rfl) ?_
    refine lv_iload_n G.1 G.2.1 (decAt dd_EN_init 3 rfl) rfl (hLH.2.2 1 _ rfl) ?_
    refine W.putf G.1 G.2.1 (gown G) (gw G tm_700 rfl) w3 w4 (Or.inr ⟨hcf, hname⟩) (a := a) (cell := cl) (v := .int h) (by rw [Array.getElem?_setIfInBounds]; simp [← hT, halt]) (by rw [hclv]; simp) (by rw [hcls]; exact hlt5) (by rw [hty]; rfl) (by rw [hclc, hclv]; exact hT5.2) (g := F0 m 6 ls [.int h, .ref a]) rfl (rest := []) rfl (decAt dd_EN_init 4 rfl) ?_
    refine W.vret G.1 G.2.1 (gr G) hq1 hq2 (decAt dd_EN_init 5 rfl) (glk G)
  obtain ⟨t, a1, b1⟩ := kk _ hH X₂
  exact ⟨t, st1 _ (fun acts => by rw [doInvoke_state]; exact st2 _ a1), b1⟩
