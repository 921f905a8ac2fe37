/-! contracts that leave an array more; Loader.longer -/
def CX (l : Launch) (E : Bs) (DO DA DB : Nat → Prop) (y : MethodName) (bytes : ByteArray) (maxL : Nat) (ret : Option FieldType) (rm : Room) (av : List Value) (ρ : Nat → Nat) (g A : Nat → Nat → Int32) (n : Nat → Nat) (tx : Value) (post : Post) : Prop :=
  Met l y [.code y bytes maxL ret] rm (va_Pc av (fun U => Bse E U ∧ Wd E DO DA ρ g A n tx U.heap)) (QW E DO DB post) rm.cells rm.slots E.F
section VCX
variable {E : Bs} {p : Program} {l : Launch} {e : Env} {R : Room} {s : State} {m : MethodId} {args : Array Value} {below : List Frame} {meth : Method} {c : Code} {cc : ByteArray} {own : String} {nL : Nat} {ret : Option FieldType} {cells slots : Nat} {Q : State → Prop} {pc : Nat} {L : List (Option Value)} {S : List Value}
variable {DO DA DB : Nat → Prop} {ρ : Nat → Nat} {g A : Nat → Nat → Int32} {n : Nat → Nat} {tx : Value} {H : Heap} {locs : List Loc} {ls : Array Slot}
variable {y : MethodName} {bytes : ByteArray} {maxL idx nn : Nat} {rt : Option FieldType} {rm : Room} {As : List Value}
theorem CX.start {ret : Option FieldType} {av : List Value} {post : Post} (L0 : List (Option Value)) (hE : Hb E) (hy : plainName y.cls = true) (hl : (entL av).length ≤ maxL) (hL : entL0 av maxL = L0)
    (body : ∀ p e s m args below meth c, Gd E p s m args meth c bytes y.cls maxL ret → V p l e rm s m args below meth c maxL (Sy E DO DA s.heap ρ g A n tx) 0 0 (MQ below (QW E DO DB post) args s rm.cells rm.slots E.F) 0 L0 []) : CX l E DO DA DB y bytes maxL ret rm av ρ g A n tx post := by
  refine Met.ofW (cc := bytes) (maxL := maxL) (ret := ret) hy rfl ?_
  intro p e s m args below meth c s₁ B hml hv
  obtain ⟨rfl, ⟨hW, hBel, hF⟩, hWd⟩ := hv
  have hown : s.vm.findClass y.cls = some m.cls := findClass_of_methodNamed B.named
  rw [lg_entry_eq]
  exact body p e s m av.toArray below meth c ⟨B.exec, B.bytes, hml, hown, B.returns, B.notSynchronized, hE, hW, hBel, hF⟩ s.heap [] _ ⟨hWd, va_S.rf⟩ (hL ▸ LH_entry av hl)
theorem w_back_x {post : Post} {mc ms : Nat} {gg : JFrame} {a : Array Value} (hr : va_Run p l e R s m args below meth c H locs cells slots mc ms (F0 m pc ls (gg.stack)) S (QW E DO DB post a) E.F) (hX : Sy E DO DA s.heap ρ g A n tx H locs) (hl : LH ls nL L)
    (kk : ∀ r ρ' g' A' n' tx', post r ρ' g' A' n' tx' → V p l e R s m args below meth c nL (Sy E DO DB s.heap ρ' g' A' n' tx') (cells + mc) (slots + ms) Q (pc + 3) L (r.toList ++ S)) : W p l e R s m args below meth c H locs cells slots Q (F0 m pc ls gg.stack) := by
  intro T hT Y
  obtain ⟨v, st₀, t, T', Lo, h0, X', hL, e1, e2, ⟨⟨r, ρ', g', A', n', tx', hv, hp, hb⟩, hz, hk⟩, st⟩ := hr T hT Y
  cases hv
  rw [h0] at hz hk
  obtain ⟨t2, a1, b1⟩ := kk _ ρ' g' A' n' tx' hp T'.heap (locs ++ Lo) ls ⟨by rw [e1]; exact hb, Nat.le_trans hX.2.1 (by rw [e1]; exact hz), fun q h1 h2 => by rw [e1, hk q (Nat.lt_of_lt_of_le h1 hX.2.1) h2]; exact hX.2.2.1 q h1 h2, fun q hq => by
      rcases List.mem_append.mp hq with h | h
      · exact hX.2.2.2 q h
      · exact hL q h⟩ hl T' rfl X'
  exact ⟨t2, st t2 a1, b1⟩
theorem v_callSx (G : Gd E p s m args meth c cc own nL ret) {post : Post} {S0 : List Value} (d : decode cc pc = .ok (.invokestatic idx, 3)) (K : KS own idx y bytes maxL rt nn) (M : CX l E DO DA DB y bytes maxL rt rm As ρ g A n tx post) (hn : As.length = nn) (hS : S0 = As.reverse ++ S) (hcat : (S.map fun v => v.category).sum ≤ 8) (hR : rm.frames + 1 ≤ R.frames ∧ 8 + (maxL + 11) + rm.locals ≤ R.locals) (hf : cells + rm.cells ≤ R.cells ∧ slots + rm.slots ≤ R.slots)
    (kk : ∀ r ρ' g' A' n' tx', post r ρ' g' A' n' tx' → V p l e R s m args below meth c nL (Sy E DO DB s.heap ρ' g' A' n' tx') (cells + rm.cells) (slots + rm.slots) Q (pc + 3) L (r.toList ++ S)) : V p l e R s m args below meth c nL (Sy E DO DA s.heap ρ g A n tx) cells slots Q pc L S0 := by
  intro H locs ls hX hl
  subst hS
  obtain ⟨k1, k2, k4, k5, k6⟩ := K
  exact w_back_x (gg := F0 m pc ls (As.reverse ++ S)) (va_runS (As := As) (rest := S) ⟨G.1, G.2.1, gml G, gown G, fun w hw => absurd hw List.not_mem_nil⟩ (Ts := []) M ⟨callB_w G k1 k4 k5 k6 hR, gw G k2 rfl⟩ ⟨blindW, fun U hU hW => ⟨rfl, Sy.bse G hX hU hW, by rw [hU]; exact hX.1⟩⟩ rfl hn hl.1 rfl (lv_room hcat) d hf) hX hl kk
end VCX
