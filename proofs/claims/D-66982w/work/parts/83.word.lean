/-! a machine's word: its parts -/
def Wr (w : Int32) (B r : Nat) : Prop := w.toBitVec.toNat = 2 ^ 25 * B + r ∧ r < 2 ^ 25 ∧ B < 128
theorem nI_bv {x : Nat} (h : x < 2 ^ 32) : (nI x).toBitVec.toNat = x := by
  show (BitVec.ofNat 32 x).toNat = x
  rw [BitVec.toNat_ofNat]
  exact Nat.mod_eq_of_lt h
theorem bv_eq {x y : Int32} (h : x.toBitVec.toNat = y.toBitVec.toNat) : x = y := Int32.toBitVec_inj.mp (BitVec.eq_of_toNat_eq h)
theorem Wr.enc {B : Nat} {bs v : Int32} (hb : bs.toBitVec.toNat = 2 ^ 25 * B) (hB : B < 128) : Wr (bs ||| (v &&& 33554431)) B (v.toBitVec.toNat % 2 ^ 25) := by
  have hr : v.toBitVec.toNat % 2 ^ 25 < 2 ^ 25 := Nat.mod_lt _ (by decide)
  refine ⟨?_, hr, hB⟩
  rw [Int32.toBitVec_or, Int32.toBitVec_and, BitVec.toNat_or, BitVec.toNat_and, hb]
  have e : (33554431 : Int32).toBitVec.toNat = 2 ^ 25 - 1 := by decide
  rw [e, Nat.and_two_pow_sub_one_eq_mod, ← Nat.two_pow_add_eq_or_of_lt hr]
theorem Wr.lab {B q : Nat} {bs : Int32} (hb : bs.toBitVec.toNat = 2 ^ 25 * B) (hB : B < 128) (hq : q < 2 ^ 25) : Wr (bs ||| nI q) B q := by
  refine ⟨?_, hq, hB⟩
  rw [Int32.toBitVec_or, BitVec.toNat_or, hb, nI_bv (by omega), ← Nat.two_pow_add_eq_or_of_lt hq]
theorem Wr.and {w : Int32} {B r : Nat} (h : Wr w B r) {K : Nat} (hK : K < 128) {k y : Int32} (hk : k.toBitVec.toNat = 2 ^ 25 * K) (hy : y.toBitVec.toNat = 2 ^ 25 * (B &&& K)) : w &&& k = y := by
  apply bv_eq
  rw [Int32.toBitVec_and, BitVec.toNat_and, h.1, hk, hy]
  apply Nat.eq_of_testBit_eq
  intro i
  rw [Nat.testBit_and, Nat.testBit_two_pow_mul_add _ h.2.1, Nat.testBit_two_pow_mul, Nat.testBit_two_pow_mul, Nat.testBit_and]
  by_cases hi : i < 25
  · rw [if_pos hi, decide_eq_false (by omega)]
    simp
  · rw [if_neg hi, decide_eq_true (by omega)]
    simp
theorem Wr.opc {w : Int32} {B r : Nat} (h : Wr w B r) {y : Int32} (hy : y = nI (B / 8)) : (w.toUInt32 >>> (Int32.toUInt32 28 &&& Int32.toUInt32 31)).toInt32 = y := by
  rw [hy]
  apply bv_eq
  obtain ⟨h1, h2, h3⟩ := h
  rw [pk_ushr w 28 28 (by decide), h1, nI_bv (by omega)]
  omega
theorem Wr.num {w : Int32} {B r : Nat} (h : Wr w B r) {y : Int32} (hy : y.toInt = if r < 2 ^ 24 then (r : Int) else (r : Int) - 2 ^ 25) : (w <<< ((7 : Int32) &&& 31)) >>> ((7 : Int32) &&& 31) = y := by
  obtain ⟨h1, h2, h3⟩ := h
  have e1 := pk_shl w ((7 : Int32) &&& 31) 7 (by decide)
  have e2 := pk_shr (w <<< ((7 : Int32) &&& 31)) ((7 : Int32) &&& 31) 7 (by decide)
  apply Int32.toInt_inj.mp
  rw [e2, hy, Int.shiftRight_eq_div_pow]
  have e3 : (w <<< ((7 : Int32) &&& 31)).toBitVec.toNat = r * 128 := by rw [e1, h1]; omega
  have e4 : (w <<< ((7 : Int32) &&& 31)).toInt = if 2 * (r * 128) < 2 ^ 32 then ((r * 128 : Nat) : Int) else ((r * 128 : Nat) : Int) - 2 ^ 32 := by
    show (w <<< ((7 : Int32) &&& 31)).toBitVec.toInt = _
    rw [BitVec.toInt_eq_toNat_cond, e3]
    rfl
  rw [e4]
  by_cases hr : r < 2 ^ 24
  · rw [if_pos (by omega), if_pos hr]; omega
  · rw [if_neg (by omega), if_neg hr]; omega
theorem Wr.lo {q : Nat} (h : q < 2 ^ 24) : (nI q).toInt = if q < 2 ^ 24 then (q : Int) else (q : Int) - 2 ^ 25 := by rw [if_pos h, nI_toInt (by omega)]
theorem small_num {v : Int32} (h : small v = true) : v.toInt = if v.toBitVec.toNat % 2 ^ 25 < 2 ^ 24 then ((v.toBitVec.toNat % 2 ^ 25 : Nat) : Int) else ((v.toBitVec.toNat % 2 ^ 25 : Nat) : Int) - 2 ^ 25 := by
  have h2 : -16000000 < v ∧ v < 16000000 := of_decide_eq_true h
  have a1 := Int32.lt_iff_toInt_lt.mp h2.1
  have a2 := Int32.lt_iff_toInt_lt.mp h2.2
  rw [show (-16000000 : Int32).toInt = -16000000 from rfl] at a1
  rw [show (16000000 : Int32).toInt = 16000000 from rfl] at a2
  have e : v.toInt = if 2 * v.toBitVec.toNat < 2 ^ 32 then ((v.toBitVec.toNat : Nat) : Int) else ((v.toBitVec.toNat : Nat) : Int) - 2 ^ 32 := by
    show v.toBitVec.toInt = _
    rw [BitVec.toInt_eq_toNat_cond]
    rfl
  have hlt := v.toBitVec.isLt
  split at e
  · rw [if_pos (by omega)]; omega
  · rw [if_neg (by omega)]; omega
theorem bas_B : ∀ i, i < 16 → (bas i).toBitVec.toNat = 2 ^ 25 * [8, 12, 14, 0, 0, 13, 17, 18, 0, 56, 0, 0, 32, 24, 0, 40].getD i 0 := by decide
theorem fin_lo {i q : Nat} (hi : i < 16) (h11 : i ≠ 11) (hl : isL i = false) (hq : q < 2 ^ 24) : Wr (finW (i, nI q)) ([8, 12, 14, 0, 0, 13, 17, 18, 0, 56, 0, 0, 32, 24, 0, 40].getD i 0) q := by
  have h := Wr.enc (v := nI q) (bas_B i hi) (by have : ∀ i, i < 16 → [8, 12, 14, 0, 0, 13, 17, 18, 0, 56, 0, 0, 32, 24, 0, 40].getD i 0 < 128 := by decide
                                                exact this i hi)
  rw [nI_bv (by omega), Nat.mod_eq_of_lt (by omega)] at h
  unfold finW
  rw [if_neg h11, if_neg (by rw [hl]; decide)]
  exact h
theorem fin_lb {i q : Nat} (hi : i < 16) (hl : isL i = true) (hq : q < 4096) : Wr (finW (i, nI q)) ([8, 12, 14, 0, 0, 13, 17, 18, 0, 56, 0, 0, 32, 24, 0, 40].getD i 0) (65536 + q) := by
  have h := Wr.lab (q := 65536 + q) (bas_B i hi) (by have : ∀ i, i < 16 → [8, 12, 14, 0, 0, 13, 17, 18, 0, 56, 0, 0, 32, 24, 0, 40].getD i 0 < 128 := by decide
                                                     exact this i hi) (by omega)
  unfold finW
  dsimp only
  rw [if_neg (fun z => by rw [z] at hl; cases hl), if_pos hl, nI_clamp (by omega)]
  exact h
theorem fin_0 (v : Int32) : Wr (finW (0, v)) 8 (v.toBitVec.toNat % 2 ^ 25) := Wr.enc (bas_B 0 (by decide)) (by decide)
