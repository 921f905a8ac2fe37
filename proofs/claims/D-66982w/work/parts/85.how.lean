/-! rows with a caught Ended at hand -/
def SyE (E : Bs) (DO DA : Nat → Prop) (H0 : Heap) (ρ : Nat → Nat) (g A : Nat → Nat → Int32) (n : Nat → Nat) (tx : Value) (h : Int32) (x : Addr) : Heap → List Loc → Prop := fun H locs => Sy E DO DA H0 ρ g A n tx H locs ∧ EnC E h x H
section HOW
variable {E : Bs} {p : Program} {l : Launch} {e : Env} {R : Room} {s : State} {m : MethodId} {args : Array Value} {below : List Frame} {meth : Method} {c : Code} {cc : ByteArray} {own : String} {nL : Nat} {ret : Option FieldType} {cells slots : Nat} {Q : State → Prop} {pc : Nat} {L : List (Option Value)} {S : List Value}
variable {DO DA : Nat → Prop} {H0 : Heap} {ρ : Nat → Nat} {g A : Nat → Nat → Int32} {n : Nat → Nat} {tx : Value} {hw : Int32} {x : Addr}
theorem v_how (G : Gd E p s m args meth c cc "RowCode" nL ret) (d : decode cc pc = .ok (.getfield 204, 3)) (kk : V p l e R s m args below meth c nL (SyE E DO DA H0 ρ g A n tx hw x) cells slots Q (pc + 3) L (.int hw :: S)) : V p l e R s m args below meth c nL (SyE E DO DA H0 ρ g A n tx hw x) cells slots Q pc L (.ref x :: S) := by
  intro H locs ls hX hl
  obtain ⟨cell, h1, h2, h3, cf, k, i, f, h4, h5, h6⟩ := hX.2
  obtain ⟨k', hi', he⟩ := State.fieldFound?_setVm (gW G).alike h4
  have hi : s.fieldFound? "RowCode$Ended" "how" "I" = some (cf, k', i, f) := hi'
  exact W.getf G.1 G.2.1 (gown G) (gw G tm_701 rfl) hi h5 h1 (by rw [h2]; simp) h6 rfl rfl d (kk H locs ls hX hl)
theorem v_getiE (G : Gd E p s m args meth c cc own nL ret) {idx k f : Nat} (d : decode cc pc = .ok (.getfield idx, 3)) (h : FI DO own idx k f) (kk : V p l e R s m args below meth c nL (SyE E DO DA H0 ρ g A n tx hw x) cells slots Q (pc + 3) L (.int (g k f) :: S)) : V p l e R s m args below meth c nL (SyE E DO DA H0 ρ g A n tx hw x) cells slots Q pc L (.ref (E.o k) :: S) := by
  intro H locs ls hX hl
  obtain ⟨h1, h2, h3, h4⟩ := h
  obtain ⟨hk, hO, -⟩ := hX.1.1.1 k h4
  refine w_get G hk h2 h1 hO d ?_
  rw [fld_i h3]
  exact kk H locs ls hX hl
theorem v_putiE (G : Gd E p s m args meth c cc own nL ret) {idx k f : Nat} {v : Int32} (hx : E.o k ≠ x) (d : decode cc pc = .ok (.putfield idx, 3)) (h : FI DO own idx k f) (hnf : (FT k f).2.2.2 = false) (hn : narrow (TY k f) (.int v) = .int v) (hfit : fits (TY k f) (.int v) = true) (kk : V p l e R s m args below meth c nL (SyE E DO DA H0 ρ (up2 g k f v) A n tx hw x) cells slots Q (pc + 3) L S) : V p l e R s m args below meth c nL (SyE E DO DA H0 ρ g A n tx hw x) cells slots Q pc L (.int v :: .ref (E.o k) :: S) := by
  intro H locs ls hX hl
  obtain ⟨hS, cell, q1, q2⟩ := hX
  obtain ⟨h1, h2, h3, h4⟩ := h
  obtain ⟨hk, hO, hFk⟩ := hS.1.1 k h4
  refine w_put G hk h2 hnf h1 hO hn hfit d fun H' i hO' hz hq => kk H' _ ls ⟨⟨hS.1.obj h4 (hO'.to fun j _ => ?_) hq fun k' hk' j => ?_, hS.2.put hz hq hFk⟩, cell, by rw [hq x (fun z => hx z.symm)]; exact q1, q2⟩ hl
  · rw [fld_up2 h3]
    simp
  · rw [fld_up2 h3, if_neg (fun z => hk' z.1)]
/-- the exception is not needed any more -/
theorem v_leaveE (kk : V p l e R s m args below meth c nL (Sy E DO DA H0 ρ g A n tx) cells slots Q pc L S) : V p l e R s m args below meth c nL (SyE E DO DA H0 ρ g A n tx hw x) cells slots Q pc L S := fun H locs ls hX hl => kk H locs ls hX.1 hl
theorem EnC.cat {h : Int32} {x : Addr} {H : Heap} (h : EnC E h x H) : ∃ cell : Cell, H[x]? = some cell ∧ cell.vm.isStatics = false ∧ E.S.vm.findClass "RowCode$Ended" = some cell.cls := by
  obtain ⟨cell, h1, h2, h3, -⟩ := h
  exact ⟨cell, h1, by rw [h2]; rfl, h3⟩
end HOW
