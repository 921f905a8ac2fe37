/-! the class: local, word, where they throw -/
/-- a launch without stack traces -/
def NT (l : Launch) : Prop := ∀ e : Env, l.admits e → e.platform.stackTraces = false
def NsC (E : Bs) (x : Addr) (H : Heap) : Prop := ∃ cell : Cell, H[x]? = some cell ∧ cell.vm.isStatics = false ∧ E.S.vm.findClass "java/util/NoSuchElementException" = some cell.cls
section NSE
variable {E : Bs} {p : Program} {l : Launch} {e : Env} {R : Room} {s : State} {m : MethodId} {args : Array Value} {below : List Frame} {meth : Method} {c : Code} {cc : ByteArray} {nL : Nat} {ret : Option FieldType} {cells slots : Nat} {Q : State → Prop} {pc : Nat} {L : List (Option Value)} {S : List Value}
variable {DO DA : Nat → Prop} {ρ : Nat → Nat} {g A : Nat → Nat → Int32} {n : Nat → Nat} {tx : Value} {H : Heap} {locs : List Loc} {ls : Array Slot}
variable {y : MethodName} {bytes : ByteArray} {maxL idx nn : Nat} {rt : Option FieldType} {rm : Room} {As : List Value} {Th : Addr → Heap → Prop}
theorem CTh.start0 {av : List Value} {post : PostT} (L0 : List (Option Value)) (hE : Hb E) (hy : plainName y.cls = true) (hl : (entL av).length ≤ maxL) (hL : entL0 av maxL = L0) (hc : Cond.code y bytes maxL rt ∈ lw_tbl)
    (body : ∀ p e s m args below meth c, Gd E p s m args meth c bytes y.cls maxL rt → c.exceptionTable.isEmpty = true → Wd E DO DA ρ g A n tx s.heap → V p l e rm s m args below meth c maxL (Pu s.heap) 0 0 (MQT below (QTh E DO DA Th post) args s rm.cells rm.slots E.F) 0 L0 []) : CTh l E DO DA Th y bytes maxL rt rm av ρ g A n tx post := by
  refine MetT.ofW (cc := bytes) (maxL := maxL) (ret := rt) hy rfl ?_
  intro p e s m args below meth c s₁ B hml hv
  obtain ⟨rfl, ⟨hW, hBel, hF⟩, hWd⟩ := hv
  have hown : s.vm.findClass y.cls = some m.cls := findClass_of_methodNamed B.named
  have G : Gd E p s m av.toArray meth c bytes y.cls maxL rt := ⟨B.exec, B.bytes, hml, hown, B.returns, B.notSynchronized, hE, hW, hBel, hF⟩
  rw [lg_entry_eq]
  exact body p e s m av.toArray below meth c G (B.noHandlers (gw G hc rfl)) hWd s.heap [] _ ⟨rfl, rfl⟩ (hL ▸ LH_entry av hl)
theorem old_kept {s t : State} {k n : Nat} (h : s.sameButNew ({ t with vm := s.vm } : State) [] k n) : s.heap.size ≤ t.heap.size ∧ ∀ q, q < s.heap.size → t.heap[q]? = s.heap[q]? := by
  refine ⟨h.2.1, fun q hq => ?_⟩
  have hc := Array.getElem?_eq_getElem hq
  rw [hc]
  exact State.sameButNew.old_cell h hc
theorem v_throwNS (G : Gd E p s m args meth c cc "RowCode" nL ret) (hNT : NT l) (hne : c.exceptionTable.isEmpty = true) {post : PostT} {MC MS : Nat} (d0 : decode cc pc = .ok (.new 207, 3)) (d1 : decode cc (pc + 3) = .ok (.dup, 1)) (d2 : decode cc (pc + 4) = .ok (.invokespecial 209, 3)) (d3 : decode cc (pc + 7) = .ok (.athrow, 1)) (hWd : Wd E DO DA ρ g A n tx s.heap) (hp : post ρ g A n tx) (hR : 1 ≤ R.cells ∧ 6 ≤ R.slots ∧ 5 < R.frames ∧ 81 ≤ R.locals) (hM : 1 ≤ MC ∧ 6 ≤ MS) : V p l e R s m args below meth c nL (Pu s.heap) 0 0 (MQT below (QTh E DO DA (NsC E) post) args s MC MS E.F) pc L [] := by
  rintro H locs ls ⟨rfl, rfl⟩ hl
  refine W.newc G.1 G.2.1 (gown G) (gw G tm_746 rfl) (gw G tm_747 rfl) (gw G tm_19 rfl) (g := F0 m pc ls []) rfl d0 (by omega) (by omega) fun cC kC h1 h2 h3 h4 => ?_
  refine lv_dup G.1 G.2.1 d1 rfl ?_
  intro T hT X
  obtain ⟨U, st, q1, q2, q3, q4, ce, hce, hown⟩ := X.ctorThrow0 G.1 (hNT e X.admits) (own := "RowCode") (cls := "java/util/NoSuchElementException") (names := ["java/lang/RuntimeException", "java/lang/Exception"]) (ic := 209) (gown G) (by decide) (by decide) (ns_at G) (fun x hx => by cases hx) (a := s.heap.size) h1 h2 (by rw [hT]; simp) (Nat.le_refl _) (g := F0 m (pc + 4) ls [.ref s.heap.size, .ref s.heap.size]) rfl (hl.1.trans (gml G).symm) rfl rfl (rest := []) rfl (by rw [G.2.1]; exact d2) (by rw [G.2.1]; exact d3) (covers_of_empty hne _) (by simp; omega) (show 2 * (F0 m (pc + 4) ls [Value.ref s.heap.size, Value.ref s.heap.size]).monitorRoom + 1 + (13 * (2 + 1) + 41) ≤ R.locals from hR.2.2.2) (glk G)
  obtain ⟨k1, k2⟩ := old_kept q4
  refine ⟨U, st, _, q1, q2, ⟨⟨ρ, g, A, n, tx, hp, hWd.kept k2⟩, ⟨ce, hce, by rw [hown.vm]; rfl, ?_⟩, Nat.le_refl _, k1, fun q hq _ => k2 q hq⟩, [], ⟨q3, q4.weaken (fun y hy _ => hy) hM.1 hM.2⟩, fun q hq => by cases hq⟩
  rw [← (gW G).alike.findClass]
  exact hown.cls
end NSE
