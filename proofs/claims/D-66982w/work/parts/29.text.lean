/-! text: String constants; Math; Row -/
def sby (i j : Nat) : Int32 := (sbyt.getD i []).getD j 0
def sle (i : Nat) : Nat := slen.getD i 0
theorem sby_ok : ∀ i, i < 17 → ∀ j, j < 8 → (sby i j).toInt8.toInt32 = sby i j ∧ (sby i j &&& 255) = sby i j ∧ ((sby i j).toUInt32 % 65536).toInt32 = sby i j := by decide +kernel
theorem sle_ok : ∀ i, i < 17 → sle i ≤ 8 := by decide +kernel
theorem sle_len : ∀ i, i < 17 → (sbyt.getD i []).length = sle i := by decide +kernel
section VST
variable {E : Bs} {p : Program} {l : Launch} {e : Env} {R : Room} {s : State} {m : MethodId} {args : Array Value} {below : List Frame} {meth : Method} {c : Code} {cc : ByteArray} {own : String} {nL : Nat} {ret : Option FieldType} {cells slots : Nat} {Q : State → Prop} {pc idx : Nat} {L : List (Option Value)} {S : List Value} {DO DA : Nat → Prop} {ρ : Nat → Nat} {g A : Nat → Nat → Int32} {n : Nat → Nat} {tx : Value} {X : Heap → List Loc → Prop}
def XS (E : Bs) (X : Heap → List Loc → Prop) (s : State) : Prop := ∀ H locs, X H locs → va_S E.F s.heap H locs
theorem XS_Sy : XS E (Sy E DO DA s.heap ρ g A n tx) s := fun _ _ h => h.2
theorem XS_Pu : XS E (Pu s.heap) s := fun H locs h => by rw [h.1, h.2]; exact va_S.rf
theorem gS (G : Gd E p s m args meth c cc own nL ret) : vk_S 17 slen sbyt (fun i => E.st (10 + i)) (fun i => E.st (40 + i)) E.F s s.heap := (((gH G).2.2.2.2.1.moved (gW G).alike).kept (fun a ha _ => (gB G).1 a ha)).narrow (gH G).2.2.1
theorem q_coder (G : Gd E p s m args meth c cc own nL ret) (hX : XS E X s) {i : Nat} (hi : i < 17) (d : decode cc pc = .ok (.getfield idx, 3)) (hw : Cond.fieldLink own idx "java/lang/String" "coder" "B" ∈ lw_tbl) (kk : V p l e R s m args below meth c nL X cells slots Q (pc + 3) L (.int 0 :: S)) : V p l e R s m args below meth c nL X cells slots Q pc L (.ref (E.st (10 + i)) :: S) :=
  fun H locs ls hx hl => vk_getf G.1 G.2.1 ((gS G).1 i hi).2.1 (hX H locs hx) (gown G) (gw G hw rfl) (fun _ h => h) d (kk H locs ls hx hl)
theorem q_value (G : Gd E p s m args meth c cc own nL ret) (hX : XS E X s) {i : Nat} (hi : i < 17) (d : decode cc pc = .ok (.getfield idx, 3)) (hw : Cond.fieldLink own idx "java/lang/String" "value" "[B" ∈ lw_tbl) (kk : V p l e R s m args below meth c nL X cells slots Q (pc + 3) L (.ref (E.st (40 + i)) :: S)) : V p l e R s m args below meth c nL X cells slots Q pc L (.ref (E.st (10 + i)) :: S) :=
  fun H locs ls hx hl => vk_getf G.1 G.2.1 ((gS G).1 i hi).2.2.1 (hX H locs hx) (gown G) (gw G hw rfl) (fun _ h => h) d (kk H locs ls hx hl)
theorem q_blen (G : Gd E p s m args meth c cc own nL ret) (hX : XS E X s) {i : Nat} (hi : i < 17) (d : decode cc pc = .ok (.arraylength, 1)) (kk : V p l e R s m args below meth c nL X cells slots Q (pc + 1) L (.int (nI (sle i)) :: S)) : V p l e R s m args below meth c nL X cells slots Q pc L (.ref (E.st (40 + i)) :: S) :=
  fun H locs ls hx hl => va_tlen G.1 G.2.1 ((gS G).1 i hi).2.2.2 (hX H locs hx) (v := nI (sle i)) rfl d (kk H locs ls hx hl)
theorem q_bald (G : Gd E p s m args meth c cc own nL ret) (hX : XS E X s) {i j : Nat} (hi : i < 17) {x : Int32} (hx : x = nI j) (hj : j < sle i) (d : decode cc pc = .ok (.baload, 1)) (kk : V p l e R s m args below meth c nL X cells slots Q (pc + 1) L (.int (sby i j) :: S)) : V p l e R s m args below meth c nL X cells slots Q pc L (.int x :: .ref (E.st (40 + i)) :: S) := by
  subst hx
  have h8 := sle_ok i hi
  exact fun H locs ls hx hl => va_tb G.1 G.2.1 ((gS G).1 i hi).2.2.2 (hX H locs hx) (vp_in_nI hj (by show sle i < _; omega)) (v := .int (sby i j)) (by rw [nI_clamp (by omega)]; rfl) d (kk H locs ls hx hl)
theorem q_ldcs (G : Gd E p s m args meth c cc own nL ret) {i : Nat} {q : String × Nat × String × List Int32} (d : decode cc pc = .ok (.ldc idx, 2)) (hq : sL[i]? = some q) (h1 : q.1 = own) (h2 : q.2.1 = idx) (kk : V p l e R s m args below meth c nL X cells slots Q (pc + 2) L (.ref (E.st (10 + i)) :: S)) : V p l e R s m args below meth c nL X cells slots Q pc L S := by
  subst h1; subst h2
  exact fun H locs ls hx hl => va_ldcS G.1 G.2.1 (gown G) (((gH G).2.2.2.2.2 i q hq).warm (gW G)) d (kk H locs ls hx hl)
theorem q_compact (G : Gd E p s m args meth c cc own nL ret) (hX : XS E X s) (d : decode cc pc = .ok (.getstatic idx, 3)) (hw : Cond.fieldLink own idx "java/lang/String" "COMPACT_STRINGS" "Z" ∈ lw_tbl) (kk : V p l e R s m args below meth c nL X cells slots Q (pc + 3) L (.int 1 :: S)) : V p l e R s m args below meth c nL X cells slots Q pc L S :=
  fun H locs ls hx hl => va_gets G.1 G.2.1 (gZ G (gH G).2.2.2.1.2.1) (hX H locs hx) (gown G) (gw G hw rfl) (fun _ h => h) d (kk H locs ls hx hl)
theorem q_form (G : Gd E p s m args meth c cc own nL ret) (hX : XS E X s) (d : decode cc pc = .ok (.getstatic idx, 3)) (hw : Cond.fieldLink own idx "jdk/internal/util/Preconditions" "SIOOBE_FORMATTER" "Ljava/util/function/BiFunction;" ∈ lw_tbl) (k1 : V p l e R s m args below meth c nL X cells slots Q (pc + 3) L (.null :: S)) (k2 : ∀ t, V p l e R s m args below meth c nL X cells slots Q (pc + 3) L (.ref t :: S)) : V p l e R s m args below meth c nL X cells slots Q pc L S := by
  rcases (gH G).2.2.2.1.2.2.1 with h | ⟨t, h⟩
  · exact fun H locs ls hx hl => va_gets G.1 G.2.1 (gZ G h) (hX H locs hx) (gown G) (gw G hw rfl) (fun _ h => h) d (k1 H locs ls hx hl)
  · exact fun H locs ls hx hl => va_gets G.1 G.2.1 (gZ G h) (hX H locs hx) (gown G) (gw G hw rfl) (fun _ h => h) d (k2 t H locs ls hx hl)
theorem q_recv (G : Gd E p s m args meth c cc own nL ret) (hX : XS E X s) {i : Nat} (hi : i < 17) : Rcv X s "java/lang/String" (E.st (10 + i)) := fun H locs hx => vk_recv (i := i) (adK := fun i => E.st (10 + i)) (gS G) hi (hX H locs hx)
end VST

set_option maxHeartbeats 4000000 in
theorem c_ST_coder (l : Launch) {E : Bs} (hE : Hb E) {i : Nat} (hi : i < 17) : CP l E y_ST_coder b_ST_coder 1 (some .byte) ({ frames := 0, cells := 0, slots := 0, locals := 0 } : Room) [.ref (E.st (10 + i))] (fun r => r = some (.int 0)) := by
  refine CP.startF [some (.ref (E.st (10 + i)))] hE (by decide +kernel) (Nat.le_of_ble_eq_true rfl) rfl ?_
  intro p e s m args below meth c G
  refine q_compact G XS_Pu (decAt dd_ST_coder 0 rfl) tm_417 ?_
  refine v_if_eq G 13 (decAt dd_ST_coder 1 rfl) (by decide) (fun c3 => absurd c3 (by decide)) (fun _ => ?_)
  refine v_aload_n G (decAt dd_ST_coder 2 rfl) rfl ?_
  refine q_coder G XS_Pu hi (decAt dd_ST_coder 3 rfl) tm_925 ?_
  refine v_goto G 14 (decAt dd_ST_coder 4 rfl) (by decide) ?_
  exact p_zret G (decAt dd_ST_coder 6 rfl) rfl rfl rfl
set_option maxHeartbeats 4000000 in
theorem c_ST_isLatin1 (l : Launch) {E : Bs} (hE : Hb E) {i : Nat} (hi : i < 17) : CP l E y_ST_isLatin1 b_ST_isLatin1 1 (some .boolean) ({ frames := 0, cells := 0, slots := 0, locals := 0 } : Room) [.ref (E.st (10 + i))] (fun r => r = some (.int 1)) := by
  refine CP.startF [some (.ref (E.st (10 + i)))] hE (by decide +kernel) (Nat.le_of_ble_eq_true rfl) rfl ?_
  intro p e s m args below meth c G
  refine q_compact G XS_Pu (decAt dd_ST_isLatin1 0 rfl) tm_417 ?_
  refine v_if_eq G 17 (decAt dd_ST_isLatin1 1 rfl) (by decide) (fun c3 => absurd c3 (by decide)) (fun _ => ?_)
  refine v_aload_n G (decAt dd_ST_isLatin1 2 rfl) rfl ?_
  refine q_coder G XS_Pu hi (decAt dd_ST_isLatin1 3 rfl) tm_925 ?_
  refine v_if_ne G 17 (decAt dd_ST_isLatin1 4 rfl) (by decide) (fun c10 => absurd c10 (by decide)) (fun _ => ?_)
  refine v_iconst G 1 (decAt dd_ST_isLatin1 5 rfl) (by decide) ?_
  refine v_goto G 18 (decAt dd_ST_isLatin1 6 rfl) (by decide) ?_
  exact p_zret G (decAt dd_ST_isLatin1 8 rfl) rfl rfl rfl
set_option maxHeartbeats 4000000 in
theorem c_ST_length (l : Launch) {E : Bs} (hE : Hb E) {i : Nat} (hi : i < 17) : CP l E y_ST_length b_ST_length 1 (some .int) ({ frames := 1, cells := 0, slots := 0, locals := 20 } : Room) [.ref (E.st (10 + i))] (fun r => r = some (.int (nI (sle i)))) := by
  refine CP.startF [some (.ref (E.st (10 + i)))] hE (by decide +kernel) (Nat.le_of_ble_eq_true rfl) rfl ?_
  intro p e s m args below meth c G
  refine v_aload_n G (decAt dd_ST_length 0 rfl) rfl ?_
  refine q_value G XS_Pu hi (decAt dd_ST_length 1 rfl) tm_924 ?_
  refine q_blen G XS_Pu hi (decAt dd_ST_length 2 rfl) ?_
  refine v_aload_n G (decAt dd_ST_length 3 rfl) rfl ?_
  refine p_callVi G (XB_Pu G) (As := []) (decAt dd_ST_length 4 rfl) k_ST_335 (c_ST_coder l hE hi) (q_recv G XS_Pu hi) rfl rfl (Nat.le_of_ble_eq_true rfl) (by decide) rfl rfl (by decide) ?_
  refine v_ishr G (decAt dd_ST_length 5 rfl) ?_
  refine v_ri (y := (nI (sle i))) (Int32.shiftRight_zero) ?_
  exact p_iret G (decAt dd_ST_length 6 rfl) rfl rfl
set_option maxHeartbeats 4000000 in
theorem c_PR_checkIndex_n (l : Launch) {E : Bs} (hE : Hb E) {j N t : Nat} (hj : j < N) (hN : N < 2147483648) : CP l E y_PR_checkIndex b_PR_checkIndex 3 (some .int) ({ frames := 0, cells := 0, slots := 0, locals := 0 } : Room) [.int (nI j), .int (nI N), .null] (fun r => r = some (.int (nI j))) := by
  refine CP.startF [some (.int (nI j)), some (.int (nI N)), some (.null)] hE (by decide +kernel) (Nat.le_of_ble_eq_true rfl) rfl ?_
  intro p e s m args below meth c G
  refine v_iload_n G (decAt dd_PR_checkIndex 0 rfl) rfl ?_
  refine v_if_lt G 9 (decAt dd_PR_checkIndex 1 rfl) (by decide) (fun c1 => ?_) (fun c1 => ?_)
  · skip
    exact absurd c1 (nI_pos (by omega))
  · skip
    refine v_iload_n G (decAt dd_PR_checkIndex 2 rfl) rfl ?_
    refine v_iload_n G (decAt dd_PR_checkIndex 3 rfl) rfl ?_
    refine v_icmp_lt G 16 (decAt dd_PR_checkIndex 4 rfl) (by decide) (fun c6 => ?_) (fun c6 => ?_)
    · skip
      refine v_iload_n G (decAt dd_PR_checkIndex 10 rfl) rfl ?_
      exact p_iret G (decAt dd_PR_checkIndex 11 rfl) rfl rfl
    · skip
      exact absurd (nI_lt hj hN) c6
set_option maxHeartbeats 4000000 in
theorem c_PR_checkIndex_r (l : Launch) {E : Bs} (hE : Hb E) {j N t : Nat} (hj : j < N) (hN : N < 2147483648) : CP l E y_PR_checkIndex b_PR_checkIndex 3 (some .int) ({ frames := 0, cells := 0, slots := 0, locals := 0 } : Room) [.int (nI j), .int (nI N), .ref t] (fun r => r = some (.int (nI j))) := by
  refine CP.startF [some (.int (nI j)), some (.int (nI N)), some (.ref t)] hE (by decide +kernel) (Nat.le_of_ble_eq_true rfl) rfl ?_
  intro p e s m args below meth c G
  refine v_iload_n G (decAt dd_PR_checkIndex 0 rfl) rfl ?_
  refine v_if_lt G 9 (decAt dd_PR_checkIndex 1 rfl) (by decide) (fun c1 => ?_) (fun c1 => ?_)
  · skip
    exact absurd c1 (nI_pos (by omega))
  · skip
    refine v_iload_n G (decAt dd_PR_checkIndex 2 rfl) rfl ?_
    refine v_iload_n G (decAt dd_PR_checkIndex 3 rfl) rfl ?_
    refine v_icmp_lt G 16 (decAt dd_PR_checkIndex 4 rfl) (by decide) (fun c6 => ?_) (fun c6 => ?_)
    · skip
      refine v_iload_n G (decAt dd_PR_checkIndex 10 rfl) rfl ?_
      exact p_iret G (decAt dd_PR_checkIndex 11 rfl) rfl rfl
    · skip
      exact absurd (nI_lt hj hN) c6
set_option maxHeartbeats 4000000 in
theorem c_ST_checkIndex (l : Launch) {E : Bs} (hE : Hb E) {j N : Nat} (hj : j < N) (hN : N < 2147483648) : CP l E y_ST_checkIndex b_ST_checkIndex 2 none ({ frames := 1, cells := 0, slots := 0, locals := 22 } : Room) [.int (nI j), .int (nI N)] (fun r => r = none) := by
  refine CP.startF [some (.int (nI j)), some (.int (nI N))] hE (by decide +kernel) (Nat.le_of_ble_eq_true rfl) rfl ?_
  intro p e s m args below meth c G
  refine v_iload_n G (decAt dd_ST_checkIndex 0 rfl) rfl ?_
  refine v_iload_n G (decAt dd_ST_checkIndex 1 rfl) rfl ?_
  refine q_form G XS_Pu (decAt dd_ST_checkIndex 2 rfl) tm_433 ?_ (fun t => ?_)
  · skip
    refine p_callSi G (XB_Pu G) (As := [.int (nI j), .int (nI N), .null]) (decAt dd_ST_checkIndex 3 rfl) k_ST_1059 (c_PR_checkIndex_n l hE (t := 0) hj hN) rfl rfl (Nat.le_of_ble_eq_true rfl) (by decide) rfl rfl (by decide) ?_
    refine v_pop G (decAt dd_ST_checkIndex 4 rfl) rfl ?_
    exact p_vret G (decAt dd_ST_checkIndex 5 rfl) rfl rfl
  · skip
    refine p_callSi G (XB_Pu G) (As := [.int (nI j), .int (nI N), .ref t]) (decAt dd_ST_checkIndex 3 rfl) k_ST_1059 (c_PR_checkIndex_r l hE hj hN) rfl rfl (Nat.le_of_ble_eq_true rfl) (by decide) rfl rfl (by decide) ?_
    refine v_pop G (decAt dd_ST_checkIndex 4 rfl) rfl ?_
    exact p_vret G (decAt dd_ST_checkIndex 5 rfl) rfl rfl
set_option maxHeartbeats 4000000 in
theorem c_SL_charAt (l : Launch) {E : Bs} (hE : Hb E) {i j : Nat} (hi : i < 17) (hj : j < sle i) : CP l E y_SL_charAt b_SL_charAt 2 (some .char) ({ frames := 2, cells := 0, slots := 0, locals := 43 } : Room) [.ref (E.st (40 + i)), .int (nI j)] (fun r => r = some (.int (sby i j))) := by
  refine CP.startF [some (.ref (E.st (40 + i))), some (.int (nI j))] hE (by decide +kernel) (Nat.le_of_ble_eq_true rfl) rfl ?_
  intro p e s m args below meth c G
  have h8 := sle_ok i hi
  obtain ⟨hb1, hb2, hb3⟩ := sby_ok i hi j (by omega)
  refine v_iload_n G (decAt dd_SL_charAt 0 rfl) rfl ?_
  refine v_aload_n G (decAt dd_SL_charAt 1 rfl) rfl ?_
  refine q_blen G XS_Pu hi (decAt dd_SL_charAt 2 rfl) ?_
  refine p_callSv G (XB_Pu G) (As := [.int (nI j), .int (nI (sle i))]) (decAt dd_SL_charAt 3 rfl) k_SL_9 (c_ST_checkIndex l hE hj (by omega)) rfl rfl (Nat.le_of_ble_eq_true rfl) (by decide) rfl rfl (by decide) ?_
  refine v_aload_n G (decAt dd_SL_charAt 4 rfl) rfl ?_
  refine v_iload_n G (decAt dd_SL_charAt 5 rfl) rfl ?_
  refine q_bald G XS_Pu hi rfl hj (decAt dd_SL_charAt 6 rfl) ?_
  refine v_sipush G 255 (decAt dd_SL_charAt 7 rfl) (by decide) ?_
  refine v_iand G (decAt dd_SL_charAt 8 rfl) ?_
  refine v_ri (y := (sby i j)) hb2 ?_
  refine v_i2c G (v := (sby i j)) (decAt dd_SL_charAt 9 rfl) hb3 ?_
  exact p_zret G (decAt dd_SL_charAt 10 rfl) rfl (congrArg Value.int hb3) rfl
set_option maxHeartbeats 4000000 in
theorem c_ST_charAt (l : Launch) {E : Bs} (hE : Hb E) {i j : Nat} (hi : i < 17) (hj : j < sle i) : CP l E y_ST_charAt b_ST_charAt 2 (some .char) ({ frames := 3, cells := 0, slots := 0, locals := 64 } : Room) [.ref (E.st (10 + i)), .int (nI j)] (fun r => r = some (.int (sby i j))) := by
  refine CP.startF [some (.ref (E.st (10 + i))), some (.int (nI j))] hE (by decide +kernel) (Nat.le_of_ble_eq_true rfl) rfl ?_
  intro p e s m args below meth c G
  have h8 := sle_ok i hi
  obtain ⟨hb1, hb2, hb3⟩ := sby_ok i hi j (by omega)
  refine v_aload_n G (decAt dd_ST_charAt 0 rfl) rfl ?_
  refine p_callVi G (XB_Pu G) (As := []) (decAt dd_ST_charAt 1 rfl) k_ST_492 (c_ST_isLatin1 l hE hi) (q_recv G XS_Pu hi) rfl rfl (Nat.le_of_ble_eq_true rfl) (by decide) rfl rfl (by decide) ?_
  refine v_if_eq G 16 (decAt dd_ST_charAt 2 rfl) (by decide) (fun c4 => absurd c4 (by decide)) (fun _ => ?_)
  refine v_aload_n G (decAt dd_ST_charAt 3 rfl) rfl ?_
  refine q_value G XS_Pu hi (decAt dd_ST_charAt 4 rfl) tm_924 ?_
  refine v_iload_n G (decAt dd_ST_charAt 5 rfl) rfl ?_
  refine p_callSi G (XB_Pu G) (As := [.ref (E.st (40 + i)), .int (nI j)]) (decAt dd_ST_charAt 6 rfl) k_ST_495 (c_SL_charAt l hE hi hj) rfl rfl (Nat.le_of_ble_eq_true rfl) (by decide) rfl rfl (by decide) ?_
  exact p_zret G (decAt dd_ST_charAt 7 rfl) rfl (congrArg Value.int hb3) rfl
def absI (x : Int32) : Int32 := if x < 0 then -x else x
def maxI (x y : Int32) : Int32 := if x < y then y else x
def minI (x y : Int32) : Int32 := if y < x then y else x
set_option maxHeartbeats 4000000 in
theorem c_MA_abs (l : Launch) {E : Bs} (hE : Hb E) {x : Int32} : CP l E y_MA_abs b_MA_abs 1 (some .int) ({ frames := 0, cells := 0, slots := 0, locals := 0 } : Room) [.int x] (fun r => r = some (.int (absI x))) := by
  refine CP.startF [some (.int x)] hE (by decide +kernel) (Nat.le_of_ble_eq_true rfl) rfl ?_
  intro p e s m args below meth c G
  refine v_iload_n G (decAt dd_MA_abs 0 rfl) rfl ?_
  refine v_if_ge G 9 (decAt dd_MA_abs 1 rfl) (by decide) (fun c1 => ?_) (fun c1 => ?_)
  · skip
    refine v_iload_n G (decAt dd_MA_abs 5 rfl) rfl ?_
    exact p_iret G (decAt dd_MA_abs 6 rfl) rfl (some_i (by unfold absI; rw [if_neg (Int32.not_lt.mpr c1)]))
  · skip
    refine v_iload_n G (decAt dd_MA_abs 2 rfl) rfl ?_
    refine v_ineg G (decAt dd_MA_abs 3 rfl) ?_
    refine v_goto G 10 (decAt dd_MA_abs 4 rfl) (by decide) ?_
    exact p_iret G (decAt dd_MA_abs 6 rfl) rfl (some_i (by unfold absI; rw [if_pos (by first | exact c1 | exact Int32.not_le.mp c1)]))
set_option maxHeartbeats 4000000 in
theorem c_MA_max (l : Launch) {E : Bs} (hE : Hb E) {x y : Int32} : CP l E y_MA_max b_MA_max 2 (some .int) ({ frames := 0, cells := 0, slots := 0, locals := 0 } : Room) [.int x, .int y] (fun r => r = some (.int (maxI x y))) := by
  refine CP.startF [some (.int x), some (.int y)] hE (by decide +kernel) (Nat.le_of_ble_eq_true rfl) rfl ?_
  intro p e s m args below meth c G
  refine v_iload_n G (decAt dd_MA_max 0 rfl) rfl ?_
  refine v_iload_n G (decAt dd_MA_max 1 rfl) rfl ?_
  refine v_icmp_lt G 9 (decAt dd_MA_max 2 rfl) (by decide) (fun c2 => ?_) (fun c2 => ?_)
  · skip
    refine v_iload_n G (decAt dd_MA_max 5 rfl) rfl ?_
    exact p_iret G (decAt dd_MA_max 6 rfl) rfl (some_i (by unfold maxI; rw [if_pos c2]))
  · skip
    refine v_iload_n G (decAt dd_MA_max 3 rfl) rfl ?_
    refine v_goto G 10 (decAt dd_MA_max 4 rfl) (by decide) ?_
    exact p_iret G (decAt dd_MA_max 6 rfl) rfl (some_i (by unfold maxI; rw [if_neg (by first | exact c2 | exact Int32.not_lt.mpr c2)]))
set_option maxHeartbeats 4000000 in
theorem c_MA_min (l : Launch) {E : Bs} (hE : Hb E) {x y : Int32} : CP l E y_MA_min b_MA_min 2 (some .int) ({ frames := 0, cells := 0, slots := 0, locals := 0 } : Room) [.int x, .int y] (fun r => r = some (.int (minI x y))) := by
  refine CP.startF [some (.int x), some (.int y)] hE (by decide +kernel) (Nat.le_of_ble_eq_true rfl) rfl ?_
  intro p e s m args below meth c G
  refine v_iload_n G (decAt dd_MA_min 0 rfl) rfl ?_
  refine v_iload_n G (decAt dd_MA_min 1 rfl) rfl ?_
  refine v_icmp_gt G 9 (decAt dd_MA_min 2 rfl) (by decide) (fun c2 => ?_) (fun c2 => ?_)
  · skip
    refine v_iload_n G (decAt dd_MA_min 5 rfl) rfl ?_
    exact p_iret G (decAt dd_MA_min 6 rfl) rfl (some_i (by unfold minI; rw [if_pos c2]))
  · skip
    refine v_iload_n G (decAt dd_MA_min 3 rfl) rfl ?_
    refine v_goto G 10 (decAt dd_MA_min 4 rfl) (by decide) ?_
    exact p_iret G (decAt dd_MA_min 6 rfl) rfl (some_i (by unfold minI; rw [if_neg (by first | exact c2 | exact Int32.not_lt.mpr c2)]))
