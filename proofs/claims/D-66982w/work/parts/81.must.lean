/-! throwing an Ended -/
def EnC (E : Bs) (h : Int32) (x : Addr) (H : Heap) : Prop := ∃ cell : Cell, H[x]? = some cell ∧ EnCell E h cell
/-- a blank Ended has been made -/
def NwE (s : State) : Heap → List Loc → Prop := fun H locs => locs = [] ∧ ∃ cE kE, s.vm.findClass "RowCode$Ended" = some cE ∧ s.vm.classes[cE]? = some kE ∧ kE.kind = .ordinary ∧ kE.instanceTypes.size = 7 ∧ H = s.heap.push (freshCell cE kE)
section ENR
variable {E : Bs} {p : Program} {l : Launch} {e : Env} {R : Room} {s : State} {m : MethodId} {args : Array Value} {below : List Frame} {meth : Method} {c : Code} {cc : ByteArray} {nL : Nat} {ret : Option FieldType} {cells slots : Nat} {Q : State → Prop} {pc : Nat} {L : List (Option Value)} {S : List Value}
variable {DO DA : Nat → Prop} {ρ : Nat → Nat} {g A : Nat → Nat → Int32} {n : Nat → Nat} {tx : Value} {H : Heap} {locs : List Loc} {ls : Array Slot}
theorem v_newE (G : Gd E p s m args meth c cc "RowCode" nL ret) (d : decode cc pc = .ok (.new 147, 3)) (hR : 1 ≤ R.cells ∧ 7 ≤ R.slots) (kk : V p l e R s m args below meth c nL (NwE s) 1 7 Q (pc + 3) L (.ref s.heap.size :: S)) : V p l e R s m args below meth c nL (Pu s.heap) 0 0 Q pc L S := by
  rintro H locs ls ⟨rfl, rfl⟩ hl
  refine W.newc G.1 G.2.1 (gown G) (gw G tm_630 rfl) (gw G tm_651 rfl) (gw G tm_18 rfl) (g := F0 m pc ls S) rfl d (by omega) (by omega) fun cC kC h1 h2 h3 h4 => ?_
  exact kk _ [] ls ⟨rfl, cC, kC, h1, h2, h3, h4, rfl⟩ hl
theorem v_throwE (G : Gd E p s m args meth c cc "RowCode" nL ret) (hE : Hb E) (hNT : NT l) (hne : c.exceptionTable.isEmpty = true) {post : PostT} {h : Int32} {MC MS : Nat} (d : decode cc pc = .ok (.invokespecial 149, 3)) (d2 : decode cc (pc + 3) = .ok (.athrow, 1)) (hWd : Wd E DO DA ρ g A n tx s.heap) (hp : post ρ g A n tx) (hR : 6 ≤ R.frames ∧ 91 ≤ R.locals) (hRc : 1 ≤ R.cells ∧ 7 ≤ R.slots) (hM : 1 ≤ MC ∧ 7 ≤ MS) : V p l e R s m args below meth c nL (NwE s) 1 7 (MQT below (QTh E DO DA (EnC E h) post) args s MC MS E.F) pc L [.int h, .ref s.heap.size, .ref s.heap.size] := by
  rintro H locs ls ⟨rfl, cE, kE, h1, h2, h3, h4, rfl⟩ hl T hT X
  have hblind : FrameBlind (va_Pc [.ref s.heap.size, .int h] (EnPre E s.heap.size)) := fun a U g mk h => h
  have hold : ∀ q, q < s.heap.size → (s.heap.push (freshCell cE kE))[q]? = s.heap[q]? := fun q hq => by rw [Array.getElem?_push, if_neg (by omega)]
  have hpre : PreS s (s.heap.push (freshCell cE kE)) (va_Pc [.ref s.heap.size, .int h] (EnPre E s.heap.size)) (.ref s.heap.size :: [.int h]) := by
    refine ⟨hblind, fun U hU hW => ⟨rfl, ⟨State.WarmedH.trans (gW G) hW, ?_, fun q hq => gF G q (by rw [hU] at hq; simp at hq; omega)⟩, cE, ?_⟩⟩
    · rw [hU]
      refine ⟨fun q hq => ?_, ?_⟩
      · rw [hold q (Nat.lt_of_lt_of_le hq (gB G).2)]
        exact (gB G).1 q hq
      · have := (gB G).2
        simp
        omega
    · obtain ⟨k', hk', he⟩ := hW.alike.2.2 _ _ h2
      have hfr : freshCell cE k' = freshCell cE kE := by rw [he]
      exact ⟨k', by rw [hW.alike.findClass]; exact h1, hk', by rw [he]; exact h3, by rw [he]; exact h4, by rw [hU, hfr]; simp⟩
  have hcb : CallB R s args "RowCode" 149 y_EN_init b_EN_init 2 none [.code y_EN_init b_EN_init 2 none] ({ frames := 5, cells := 0, slots := 0, locals := 70 } : Room) 0 0 1 := callB_w G tm_690 tm_18 tm_692 ⟨⟨by decide, by decide⟩, by decide +kernel⟩ ⟨hR.1, hR.2⟩
  have hr := va_runI (p := p) (l := l) (e := e) (below := below) (meth := meth) (locs := []) (cells := 1) (slots := 7) (As := [.int h]) (rest := [.ref s.heap.size]) (b := s.heap.size) (g := F0 m pc ls [.int h, .ref s.heap.size, .ref s.heap.size]) ⟨G.1, G.2.1, gml G, gown G, fun w hw => absurd hw List.not_mem_nil⟩ (Ts := []) (c_EN_init l hNT hE (a := s.heap.size) (h := h)) ⟨hcb, rfl, gw G tm_691 rfl⟩ hpre rfl rfl hl.1 rfl (lv_room (Nat.le_of_ble_eq_true rfl)) d ⟨hRc.1, hRc.2⟩
  obtain ⟨v, st₀, t, T', Lo, e0, X', hL, e1, e2, ⟨hv, cell, hc1, hc2⟩, st⟩ := hr T hT X
  cases hv
  rw [e0] at hc1
  obtain ⟨w1, w2, w3, w4, w5⟩ := X'.athrowLeaves G.1 (g := F0 m (pc + 3) ls [.ref s.heap.size]) rfl rfl rfl (covers_of_empty hne _) (a := s.heap.size) (rest := []) rfl (by rw [G.2.1]; exact d2) (glk G)
  have hheap : T'.heap = (s.heap.push (freshCell cE kE)).setIfInBounds s.heap.size cell := by rw [e1, hc1]
  have hk2 : ∀ q, q < s.heap.size → T'.heap[q]? = s.heap[q]? := fun q hq => by
    rw [hheap, Array.getElem?_setIfInBounds_ne (by omega)]
    exact hold q hq
  refine ⟨_, st _ w1, _, w2, w3, ⟨⟨ρ, g, A, n, tx, hp, hWd.kept hk2⟩, ⟨cell, ?_, hc2⟩, Nat.le_refl _, ?_, fun q hq _ => hk2 q hq⟩, [] ++ Lo, ⟨w4, w5.weaken (fun y hy _ => hy) hM.1 hM.2⟩, fun q hq => ?_⟩
  · show T'.heap[s.heap.size]? = some cell
    rw [hheap]
    simp
  · show s.heap.size ≤ T'.heap.size
    rw [hheap]
    simp
  · have := hL q (by simpa using hq)
    rw [this]
    exact gF G _ (Nat.le_refl _)
end ENR
