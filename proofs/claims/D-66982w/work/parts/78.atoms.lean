/-! what java.lang.Throwable's part of the tables says, at any method's start -/
section ATM
variable {E : Bs} {p : Program} {l : Launch} {e : Env} {R : Room} {s : State} {m : MethodId} {args : Array Value} {below : List Frame} {meth : Method} {c : Code} {cc : ByteArray} {own : String} {nL : Nat} {ret : Option FieldType}
theorem gdecl (G : Gd E p s m args meth c cc own nL ret) {y : MethodName} (h : Cond.declares y ∈ lw_tbl) : (Cond.declares y).before args s = true := by
  obtain ⟨⟨a0, hw, -⟩, -⟩ : Hb E := G.2.2.2.2.2.2.1
  have h1 := Cond.faceAtom_setVm (gW G).alike _ rfl (hw _ h)
  exact h1
theorem gcast (G : Gd E p s m args meth c cc own nL ret) {x y : String} (h : Cond.castable x y ∈ lw_tbl) : (Cond.castable x y).before args s = true := by
  obtain ⟨⟨a0, hw, -⟩, -⟩ : Hb E := G.2.2.2.2.2.2.1
  have h1 := Cond.faceAtom_setVm (gW G).alike _ rfl (hw _ h)
  exact h1
theorem gZq (G : Gd E p s m args meth c cc own nL ret) {C nm d : String} (h : va_Zq C nm d (old E) E.S E.S.heap) : va_Zq C nm d E.F s s.heap := ((h.moved (gW G).alike).kept (fun a ha _ => (gB G).1 a ha)).narrow (gH G).2.2.1
theorem Zq_ref {C nm d : String} {F : Nat → Prop} (h : va_Zq C nm d F s s.heap) : (Cond.isRef (.static C nm d)).before args s = true := by
  rcases h with ⟨cf, kf, fi, f, a, cell, h1, h2, h3, h4, h5, h6, h7, -⟩ | ⟨t, cf, kf, fi, f, a, cell, h1, h2, h3, h4, h5, h6, h7, -⟩
  · simp [Cond.before, Cond.holds, Cond.value, Term.eval, State.fieldNamed?, h1, h2, h4, h5, h6, h7, Value.isRef]
  · simp [Cond.before, Cond.holds, Cond.value, Term.eval, State.fieldNamed?, h1, h2, h4, h5, h6, h7, Value.isRef]
theorem glst (G : Gd E p s m args meth c cc own nL ret) {C nm d : String} (h : Cond.laysStatic C nm d ∈ lw_tbl) : (Cond.laysStatic C nm d).before args s = true := by
  obtain ⟨⟨a0, hw, -⟩, -⟩ : Hb E := G.2.2.2.2.2.2.1
  obtain ⟨c1, k1, i1, f1, a1, cell1, h1, h2, h3, h4, h5, h6, h7, h8, h9⟩ := Cond.laysStatic_spec (hw _ h)
  obtain ⟨k', hi', he⟩ := State.fieldFound?_setVm (gW G).alike h2
  have hi : s.fieldFound? C nm d = some (c1, k', i1, f1) := hi'
  have hc : s.vm.findClass C = some c1 := by rw [(gW G).alike.findClass]; exact h1
  have h4' : k'.statics = some a1 := by rw [he]; exact h4
  have h9' : k'.staticTypes[f1.slot]? = some f1.type := by rw [he]; exact h9
  have h5' : s.heap[a1]? = some cell1 := by rw [(gB G).1 a1 (Array.getElem?_eq_some_iff.mp h5).1]; exact h5
  simp [Cond.before, Cond.holds, Cond.value, hc, hi, h3, h4', h5', h6, h7, h8, h9']
theorem thr_at (G : Gd E p s m args meth c cc own nL ret) : ∀ w ∈ Bundle.throwableAtoms, w.before args s = true := by
  intro w hw
  simp only [Bundle.throwableAtoms, List.mem_cons, List.not_mem_nil, or_false] at hw
  rcases hw with rfl | rfl | rfl | rfl | rfl | rfl | rfl | rfl | rfl | rfl | rfl | rfl | rfl | rfl | rfl | rfl | rfl | rfl | rfl | rfl | rfl | rfl | rfl | rfl
  · exact gw G tm_15 rfl
  · exact gw G tm_672 rfl
  · exact gw G tm_681 rfl
  · exact gw G tm_684 rfl
  · exact gw G tm_687 rfl
  · exact gw G tm_689 rfl
  · exact gw G tm_673 rfl
  · exact gw G tm_674 rfl
  · exact gw G tm_26 rfl
  · exact gw G tm_27 rfl
  · exact gw G tm_675 rfl
  · exact gw G tm_680 rfl
  · exact gw G tm_685 rfl
  · exact gw G tm_703 rfl
  · exact gw G tm_662 rfl
  · exact gw G tm_704 rfl
  · exact gw G tm_664 rfl
  · exact gw G tm_705 rfl
  · exact gw G tm_666 rfl
  · exact gw G tm_676 rfl
  · exact glst G tm_677
  · exact gw G tm_678 rfl
  · exact glst G tm_679
  · exact gw G tm_668 rfl
theorem ch_rt (G : Gd E p s m args meth c cc own nL ret) : ∀ w ∈ Bundle.chain0Atoms "java/lang/RuntimeException" ["java/lang/Exception"], w.before args s = true := by
  intro w hw
  simp only [Bundle.chain0Atoms, Bundle.passAtoms, List.mem_append, List.mem_cons, List.not_mem_nil, or_false] at hw
  rcases hw with (rfl | rfl | rfl | rfl | rfl) | (rfl | rfl | rfl | rfl | rfl)
  · exact gw G tm_694 rfl
  · exact gw G tm_695 rfl
  · exact gw G tm_696 rfl
  · exact gw G tm_697 rfl
  · exact gdecl G tm_655
  · exact gw G tm_697 rfl
  · exact gw G tm_698 rfl
  · exact gw G tm_699 rfl
  · exact gw G tm_673 rfl
  · exact gdecl G tm_657
theorem ns_at (G : Gd E p s m args meth c cc own nL ret) : ∀ w ∈ Bundle.ownAtoms0 "RowCode" 209 "java/util/NoSuchElementException" ["java/lang/RuntimeException", "java/lang/Exception"], w.before args s = true := by
  intro w hw
  have hch : ∀ w ∈ Bundle.chain0Atoms "java/util/NoSuchElementException" ["java/lang/RuntimeException", "java/lang/Exception"], w.before args s = true := by
    intro w hw
    rw [Bundle.chain0Atoms] at hw
    rcases List.mem_append.mp hw with h | h
    · simp only [Bundle.passAtoms, List.mem_cons, List.not_mem_nil, or_false] at h
      rcases h with rfl | rfl | rfl | rfl | rfl
      · exact gw G tm_756 rfl
      · exact gw G tm_757 rfl
      · exact gw G tm_758 rfl
      · exact gw G tm_694 rfl
      · exact gdecl G tm_653
    · exact ch_rt G w h
  unfold Bundle.ownAtoms0 at hw
  rcases List.mem_append.mp hw with hw | hw
  · rcases List.mem_append.mp hw with h | h
    · exact thr_at G w h
    · exact hch w h
  · simp only [List.mem_cons, List.not_mem_nil, or_false] at hw
    obtain ⟨-, -, -, z1, z2⟩ := (gH G).2.2.2.1
    rcases hw with rfl | rfl | rfl | rfl | rfl | rfl | rfl | rfl | rfl | rfl | rfl | rfl | rfl | rfl
    · exact gw G tm_755 rfl
    · exact gw G tm_747 rfl
    · exact gcast G tm_748
    · exact gw G tm_749 rfl
    · exact gw G tm_683 rfl
    · exact gw G tm_750 rfl
    · exact gw G tm_751 rfl
    · exact gw G tm_752 rfl
    · exact gw G tm_753 rfl
    · exact Zq_ref (gZq G z1)
    · exact Zq_ref (gZq G z2)
    · exact gw G tm_671 rfl
    · exact gw G tm_670 rfl
    · exact gw G tm_754 rfl
end ATM
