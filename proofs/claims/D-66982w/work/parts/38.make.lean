/-! Generator: make -/
def gini : GS := (0, fun _ => (4, 0), [], [], 0, true, false)
def gstep (c : Cod) (ht : Nat → Option Nat) (i : Nat) (q : GS) : GS := match c[i]? with
  | some (N, a) => gone N a (match c[i + 1]? with | some (_, k) => k | none => 0) ((ht i).getD 0) q
  | none => q
def gfold (c : Cod) (ht : Nat → Option Nat) : Nat → GS
  | 0 => gini
  | i + 1 => gstep c ht i (gfold c ht i)
def gdat (q : GS) : Nat → GS
  | 0 => q
  | k + 1 => gline 11 (q.gr.getD k 0) (gline 14 (nI (100 + k)) (gdat q k))
def gmake (c : Cod) (ht : Nat → Option Nat) : GS := gdat (gfold c ht c.length) (gfold c ht c.length).gr.length
theorem gdat_gr (q : GS) (k : Nat) : (gdat q k).gr = q.gr := by
  induction k with
  | zero => rfl
  | succ k ih => exact ih
theorem gdat_mo (q : GS) (k : Nat) : (gdat q k).mo = q.mo := by
  induction k with
  | zero => rfl
  | succ k ih => exact ih
theorem QLe.dat (q : GS) {k m : Nat} (h : k ≤ m) : QLe (gdat q k) (gdat q m) := by
  induction m with
  | zero => rw [show k = 0 by omega]; exact QLe.rf _
  | succ m ih =>
    by_cases e : k = m + 1
    · rw [e]; exact QLe.rf _
    · exact ((ih (by omega)).trans (QLe.line _ _ _)).trans (QLe.line _ _ _)
/-- what gone asks for, all along -/
def GOK (c : Cod) (ht : Nat → Option Nat) : Prop := ∀ i N a, c[i]? = some (N, a) → N ≤ 20 ∧ (¬ (10 ≤ N ∧ N ≤ 13) → tI N ≤ ((gfold c ht i).d : Int)) ∧ (N ≤ 1 → (gfold c ht i).d < 60) ∧ (N = 11 ∨ N = 12 → (gfold c ht i).sa = false → 1 ≤ (gfold c ht i).d) ∧ (gfold c ht i).mo ≤ 60 ∧ (N = 13 → (ht i).getD 0 ≤ 60) ∧ Fit (gfold c ht (i + 1))
/-- what making leaves of the rest -/
def MkF (g A : Nat → Nat → Int32) (n : Nat → Nat) (g' A' : Nat → Nat → Int32) (n' : Nat → Nat) : Prop := (∀ k f, ¬ (k = 3 ∧ (f = 3 ∨ f = 4 ∨ f = 6 ∨ f = 8 ∨ f = 9 ∨ f = 14 ∨ f = 15)) → ¬ (k = 4 ∧ f = 1) → g' k f = g k f) ∧ (∀ i, ¬ (17 ≤ i ∧ i ≤ 25) → A' i = A i) ∧ (∀ i, i ≠ 19 → i ≠ 20 → i ≠ 23 → i ≠ 24 → n' i = n i) ∧ n' 19 = 200 ∧ n' 23 = 200 ∧ n' 24 ≤ 256
theorem MkF.gn {g A g1 A1 g2 A2 : Nat → Nat → Int32} {n n1 n2 : Nat → Nat} (h : MkF g A n g1 A1 n1) (h2 : GnF g1 A1 n1 g2 A2 n2) : MkF g A n g2 A2 n2 := by
  obtain ⟨a1, a2, a3, a4, a5, a6⟩ := h
  exact ⟨fun k f x y => (h2.1 k f (fun z => x ⟨z.1, by omega⟩) y).trans (a1 k f x y), fun i hi => (h2.2.1 i (by omega) (by omega) (by omega) (by omega)).trans (a2 i hi), fun i x y z w => (h2.2.2 i y).trans (a3 i x y z w), (h2.2.2 19 (by decide)).trans a4, (h2.2.2 23 (by decide)).trans a5, by rw [h2.2.2 24 (by decide)]; exact a6⟩

set_option maxHeartbeats 4000000 in
theorem c_GN_make (l : Launch) {E : Bs} (hE : Hb E) {ρ : Nat → Nat} {g A : Nat → Nat → Int32} {n : Nat → Nat} {tx : Value} {c : Cod} {ht : Nat → Option Nat} (hlen : c.length ≤ 64) (hc0 : 0 < c.length) (hT : Typ c ht) (hL : LabC c) (hall : ∀ i, i < c.length → SR c i) (hC : CdI (A 11) c) (hN : g 1 1 = nI (2 * c.length)) (hlb : g 1 2 = nI 100) (hsame : g 3 15 = 0) (hb11 : n 11 = 1000) (hb17 : n 17 = 64) (hb18 : n 18 = 64) (hb19 : n 19 = 64 ∨ n 19 = 200) (hb20 : n 20 = 16 ∨ n 20 = 32 ∨ n 20 = 64) (hb21 : n 21 = 64) (hb22 : n 22 = 64) (hb23 : n 23 = 64 ∨ n 23 = 200) (hb24 : n 24 ≤ 256) (hb25 : n 25 = 4096) (hG : GOK c ht) (hB : Fit (gmake c ht)) : CW l E DC AC y_GN_make b_GN_make 3 (some .int) ({ frames := 12, cells := 3 + 64 * c.length, slots := 656 + 4096 * c.length, locals := 261 } : Room) [.ref (E.o 3), .ref (E.o 1)] ρ g A n tx (fun r ρ' g' A' n' tx' => r = some (.int (nI (gmake c ht).mo)) ∧ GnI (gmake c ht) g' A' n' ∧ MkF g A n g' A' n' ∧ tx' = tx) := by
  refine CW.start [some (.ref (E.o 3)), some (.ref (E.o 1)), none] hE (by decide) (Nat.le_of_ble_eq_true rfl) rfl ?_
  intro p e s m args below meth c1 G
  have J123 : ∀ (d k : Nat) (ρ1 : Nat → Nat) (g1 A1 : Nat → Nat → Int32) (n1 : Nat → Nat), k + d = (gfold c ht c.length).gr.length → GnI (gdat (gfold c ht c.length) k) g1 A1 n1 → MkF g A n g1 A1 n1 → V p l e ({ frames := 12, cells := 3 + 64 * c.length, slots := 656 + 4096 * c.length, locals := 261 } : Room) s m args below meth c1 3 (Sy E DC AC s.heap ρ1 g1 A1 n1 tx) (3 + 64 * c.length) (656 + 4096 * c.length) (MQ below (QW E DC AC (fun r ρ' g' A' n' tx' => r = some (.int (nI (gmake c ht).mo)) ∧ GnI (gmake c ht) g' A' n' ∧ MkF g A n g' A' n' ∧ tx' = tx)) args s (3 + 64 * c.length) (656 + 4096 * c.length) E.F) 123 [some (.ref (E.o 3)), some (.ref (E.o 1)), some (.int (nI k))] [] := by
    have hg64 : (gfold c ht c.length).gr.length ≤ 64 := by have := hB.2; unfold gmake at this; rw [gdat_gr] at this; exact this
    intro d
    induction d with
    | zero =>
      intro k ρ1 g1 A1 n1 hk hI1 hM1
      have hgm : g1 3 8 = nI (gfold c ht c.length).gr.length := hI1.gm.trans (by rw [gdat_gr])
      refine v_iload_n G (decAt dd_GN_make 72 rfl) rfl ?_
      refine v_aload_n G (decAt dd_GN_make 73 rfl) rfl ?_
      refine v_geti G (decAt dd_GN_make 74 rfl) f_GN_88 ?_
      refine v_ri (y := (nI (gfold c ht c.length).gr.length)) hgm ?_
      refine v_icmp_ge G 161 (decAt dd_GN_make 75 rfl) (by decide) (fun c128 => ?_) (fun c128 => ?_)
      · skip
        refine v_aload_n G (decAt dd_GN_make 92 rfl) rfl ?_
        refine v_geti G (decAt dd_GN_make 93 rfl) f_GN_61 ?_
        refine v_ri (y := (nI (gdat (gfold c ht c.length) k).mo)) hI1.most ?_
        have ek : k = (gfold c ht c.length).gr.length := by omega
        subst ek
        exact v_iret G (decAt dd_GN_make 94 rfl) rfl ⟨rfl, hI1, hM1, rfl⟩
      · skip
        exact absurd (nI_le (by omega) (by omega)) c128
    | succ d ih =>
      intro k ρ1 g1 A1 n1 hk hI1 hM1
      have hgm : g1 3 8 = nI (gfold c ht c.length).gr.length := hI1.gm.trans (by rw [gdat_gr])
      have hBk : Fit (gdat (gfold c ht c.length) (k + 1)) := hB.of (QLe.dat _ (by omega))
      have hBk1 : Fit (gline 14 (nI (100 + k)) (gdat (gfold c ht c.length) k)) := hBk.of (QLe.line _ _ _)
      refine v_iload_n G (decAt dd_GN_make 72 rfl) rfl ?_
      refine v_aload_n G (decAt dd_GN_make 73 rfl) rfl ?_
      refine v_geti G (decAt dd_GN_make 74 rfl) f_GN_88 ?_
      refine v_ri (y := (nI (gfold c ht c.length).gr.length)) hgm ?_
      refine v_icmp_ge G 161 (decAt dd_GN_make 75 rfl) (by decide) (fun c128 => ?_) (fun c128 => ?_)
      · skip
        exact absurd c128 (nI_ge (by omega) (by omega))
      · skip
        refine v_aload_n G (decAt dd_GN_make 76 rfl) rfl ?_
        refine q_ldcs G (i := 14) (decAt dd_GN_make 77 rfl) rfl rfl rfl ?_
        refine v_aload_n G (decAt dd_GN_make 78 rfl) rfl ?_
        refine v_geti G (decAt dd_GN_make 79 rfl) f_GN_93 ?_
        refine v_ri (y := (nI 100)) hI1.lab ?_
        refine v_iload_n G (decAt dd_GN_make 80 rfl) rfl ?_
        refine v_iadd G (decAt dd_GN_make 81 rfl) ?_
        refine v_ri (y := (nI (100 + k))) (nI_add 100 k) ?_
        refine v_callVv G (As := [.ref (E.st (10 + 14)), .int (nI (100 + k))]) (P := fun ρ' g' A' n' tx' => GnI (gline 14 (nI (100 + k)) (gdat (gfold c ht c.length) k)) g' A' n' ∧ GnF g1 A1 n1 g' A' n' ∧ tx' = tx) (rm := ({ frames := 5, cells := 0, slots := 0, locals := 107 } : Room)) (decAt dd_GN_make 82 rfl) k_GN_84 (c_GN_lineG l hE hI1 (i := 14) (v := (nI (100 + k))) (by decide) hBk1) (by decide) rfl rfl rfl (Nat.le_of_ble_eq_true rfl) ⟨Nat.le_of_ble_eq_true rfl, Nat.le_of_ble_eq_true rfl⟩ ⟨Nat.le_refl _, Nat.le_refl _⟩ ?_
        rintro ρ601 g601 A601 n601 tx601 ⟨hI601, hX601, etx⟩
        replace etx := etx.symm; subst etx
        have hF601 := GnF.trans (GnF.rf g1 A1 n1) hX601
        refine v_aload_n G (decAt dd_GN_make 83 rfl) rfl ?_
        refine q_ldcs G (i := 11) (decAt dd_GN_make 84 rfl) rfl rfl rfl ?_
        refine v_aload_n G (decAt dd_GN_make 85 rfl) rfl ?_
        refine v_geta G (decAt dd_GN_make 86 rfl) f_GN_28 ?_
        refine v_iload_n G (decAt dd_GN_make 87 rfl) rfl ?_
        refine v_iald G 20 k (decAt dd_GN_make 88 rfl) (by decide) rfl rfl (by have := hI601.gle; rw [show (gline 14 (nI (100 + k)) (gdat (gfold c ht c.length) k)).gr = (gfold c ht c.length).gr from gdat_gr _ _] at this; omega) ?_
        refine v_ri (y := (gfold c ht c.length).gr.getD k 0) (hI601.gt k _ (by rw [show (gline 14 (nI (100 + k)) (gdat (gfold c ht c.length) k)).gr = (gfold c ht c.length).gr from gdat_gr _ _, List.getD_eq_getElem?_getD, List.getElem?_eq_getElem (by omega)]; rfl)) ?_
        refine v_callVv G (As := [.ref (E.st (10 + 11)), .int ((gfold c ht c.length).gr.getD k 0)]) (P := fun ρ' g' A' n' tx' => GnI (gline 11 ((gfold c ht c.length).gr.getD k 0) (gline 14 (nI (100 + k)) (gdat (gfold c ht c.length) k))) g' A' n' ∧ GnF g601 A601 n601 g' A' n' ∧ tx' = tx) (rm := ({ frames := 5, cells := 0, slots := 0, locals := 107 } : Room)) (decAt dd_GN_make 89 rfl) k_GN_84 (c_GN_lineG l hE hI601 (i := 11) (v := ((gfold c ht c.length).gr.getD k 0)) (by decide) hBk) (by decide) rfl rfl rfl (Nat.le_of_ble_eq_true rfl) ⟨Nat.le_of_ble_eq_true rfl, Nat.le_of_ble_eq_true rfl⟩ ⟨Nat.le_refl _, Nat.le_refl _⟩ ?_
        rintro ρ602 g602 A602 n602 tx602 ⟨hI602, hX602, etx⟩
        replace etx := etx.symm; subst etx
        have hF602 := GnF.trans hF601 hX602
        refine v_iinc_2 G (nI (k + 1)) (decAt dd_GN_make 90 rfl) ((nI_1 _)) (by decide) rfl ?_
        refine v_goto G 123 (decAt dd_GN_make 91 rfl) (by decide) ?_
        exact ih (k + 1) _ _ _ _ (by omega) hI602 (hM1.gn hF602)
  have J67 : ∀ (d i : Nat) (ρ1 : Nat → Nat) (g1 A1 : Nat → Nat → Int32) (n1 : Nat → Nat), i + d = c.length → GnI (gfold c ht i) g1 A1 n1 → MkF g A n g1 A1 n1 → DpI c ht (A1 19) → V p l e ({ frames := 12, cells := 3 + 64 * c.length, slots := 656 + 4096 * c.length, locals := 261 } : Room) s m args below meth c1 3 (Sy E DC AC s.heap ρ1 g1 A1 n1 tx) (3 + 64 * i) (656 + 4096 * i) (MQ below (QW E DC AC (fun r ρ' g' A' n' tx' => r = some (.int (nI (gmake c ht).mo)) ∧ GnI (gmake c ht) g' A' n' ∧ MkF g A n g' A' n' ∧ tx' = tx)) args s (3 + 64 * c.length) (656 + 4096 * c.length) E.F) 67 [some (.ref (E.o 3)), some (.ref (E.o 1)), some (.int (nI (2 * i)))] [] := by
    intro d
    induction d with
    | zero =>
      intro i ρ1 g1 A1 n1 hi hI1 hM1 hD
      refine v_iload_n G (decAt dd_GN_make 38 rfl) rfl ?_
      refine v_aload_n G (decAt dd_GN_make 39 rfl) rfl ?_
      refine v_geti G (decAt dd_GN_make 40 rfl) f_GN_121 ?_
      refine v_ri (y := (nI (2 * c.length))) ((hM1.1 1 1 (by decide) (by decide)).trans hN) ?_
      refine v_icmp_ge G 121 (decAt dd_GN_make 41 rfl) (by decide) (fun c72 => ?_) (fun c72 => ?_)
      · skip
        refine v_iconst G 0 (decAt dd_GN_make 70 rfl) (by decide) ?_
        refine v_istore_2 G (decAt dd_GN_make 71 rfl) (by decide) rfl ?_
        have ei : i = c.length := by omega
        subst ei
        exact J123 (gfold c ht c.length).gr.length 0 _ _ _ _ (by omega) hI1 hM1
      · skip
        exact absurd (nI_le (by omega) (by omega)) c72
    | succ d ih =>
      intro i ρ1 g1 A1 n1 hi hI1 hM1 hD
      obtain ⟨⟨N, x⟩, hq⟩ : ∃ z, c[i]? = some z := ⟨c[i], List.getElem?_eq_getElem (by omega)⟩
      obtain ⟨q1, q2, q3⟩ := hC i N x hq
      have h11A : A1 11 = A 11 := hM1.2.1 11 (by decide)
      have h11n : n1 11 = 1000 := (hM1.2.2.1 11 (by decide) (by decide) (by decide) (by decide)).trans hb11
      rw [← h11A] at q1 q2
      obtain ⟨g0, g1', g2, g3, g4, g5, g6⟩ := hG i N x hq
      obtain ⟨-, hao, h13, -, -⟩ := hL i N x hq
      have hgs : ∀ fo, (match c[i + 1]? with | some (_, k) => k | none => (0 : Int32)) = fo → gfold c ht (i + 1) = gone N x fo ((ht i).getD 0) (gfold c ht i) := fun fo e => by
        rw [gfold, gstep, hq]
        dsimp only
        rw [e]
      have hla : N = 13 → (ht i).getD 0 ≤ 60 ∧ ∃ y : Nat, x = nI y ∧ y < n1 19 ∧ A1 19 y = nI ((ht i).getD 0 + 1) := fun e => by
        obtain ⟨y, hy1, hy2, hy3⟩ := inR_nI (argOK_lab hao (by omega))
        obtain ⟨h, e1, e2⟩ := hD x i (h13 e)
        exact ⟨g5 e, y, hy2, by rw [hM1.2.2.2.1]; omega, by rw [e1, ← hy3]; exact e2⟩
      refine v_iload_n G (decAt dd_GN_make 38 rfl) rfl ?_
      refine v_aload_n G (decAt dd_GN_make 39 rfl) rfl ?_
      refine v_geti G (decAt dd_GN_make 40 rfl) f_GN_121 ?_
      refine v_ri (y := (nI (2 * c.length))) ((hM1.1 1 1 (by decide) (by decide)).trans hN) ?_
      refine v_icmp_ge G 121 (decAt dd_GN_make 41 rfl) (by decide) (fun c72 => ?_) (fun c72 => ?_)
      · skip
        exact absurd c72 (nI_ge (by omega) (by omega))
      · skip
        refine v_aload_n G (decAt dd_GN_make 42 rfl) rfl ?_
        refine v_aload_n G (decAt dd_GN_make 43 rfl) rfl ?_
        refine v_geta G (decAt dd_GN_make 44 rfl) f_GN_127 ?_
        refine v_iload_n G (decAt dd_GN_make 45 rfl) rfl ?_
        refine v_iald G 11 (2 * i) (decAt dd_GN_make 46 rfl) (by decide) rfl rfl (by omega) ?_
        refine v_ri (y := stv 2 N) q1 ?_
        refine v_aload_n G (decAt dd_GN_make 47 rfl) rfl ?_
        refine v_geta G (decAt dd_GN_make 48 rfl) f_GN_127 ?_
        refine v_iload_n G (decAt dd_GN_make 49 rfl) rfl ?_
        refine v_iconst G 1 (decAt dd_GN_make 50 rfl) (by decide) ?_
        refine v_iadd G (decAt dd_GN_make 51 rfl) ?_
        refine v_ri (y := (nI (2 * i + 1))) (nI_1 _) ?_
        refine v_iald G 11 (2 * i + 1) (decAt dd_GN_make 52 rfl) (by decide) rfl rfl (by omega) ?_
        refine v_ri (y := x) q2 ?_
        refine v_iload_n G (decAt dd_GN_make 53 rfl) rfl ?_
        refine v_iconst G 2 (decAt dd_GN_make 54 rfl) (by decide) ?_
        refine v_iadd G (decAt dd_GN_make 55 rfl) ?_
        refine v_ri (y := (nI (2 * i + 2))) (nI_add (2 * i) 2) ?_
        refine v_aload_n G (decAt dd_GN_make 56 rfl) rfl ?_
        refine v_geti G (decAt dd_GN_make 57 rfl) f_GN_121 ?_
        refine v_ri (y := (nI (2 * c.length))) ((hM1.1 1 1 (by decide) (by decide)).trans hN) ?_
        refine v_icmp_ge G 111 (decAt dd_GN_make 58 rfl) (by decide) (fun c97 => ?_) (fun c97 => ?_)
        · skip
          have hge : c.length ≤ i + 1 := by
            have := (nI_leI (a := 2 * c.length) (b := 2 * i + 2) (by omega) (by omega)).mp c97
            omega
          have hfo := hgs 0 (by rw [List.getElem?_eq_none (by omega)])
          refine v_iconst G 0 (decAt dd_GN_make 66 rfl) (by decide) ?_
          refine v_callVv G (As := [.int (stv 2 N), .int x, .int 0]) (P := fun ρ' g' A' n' tx' => GnI (gone N x 0 ((ht i).getD 0) (gfold c ht i)) g' A' n' ∧ GnF g1 A1 n1 g' A' n' ∧ tx' = tx) (rm := ({ frames := 11, cells := 64, slots := 4096, locals := 238 } : Room)) (decAt dd_GN_make 67 rfl) k_GN_151 (c_GN_one l hE hI1 (N := N) (dl := (ht i).getD 0) (a := x) (fo := 0) g0 g1' g2 g3 g4 hla (by rw [← hfo]; exact g6)) (by decide) rfl rfl rfl (Nat.le_of_ble_eq_true rfl) ⟨Nat.le_of_ble_eq_true rfl, Nat.le_of_ble_eq_true rfl⟩ ⟨by show 3 + 64 * i + 64 ≤ 3 + 64 * c.length; omega, by show 656 + 4096 * i + 4096 ≤ 656 + 4096 * c.length; omega⟩ ?_
          rintro ρ603 g603 A603 n603 tx603 ⟨hI603, hX603, etx⟩
          replace etx := etx.symm; subst etx
          have hF603 := GnF.trans (GnF.rf g1 A1 n1) hX603
          refine v_iinc_2 G (nI (2 * (i + 1))) (decAt dd_GN_make 68 rfl) ((nI_add (2 * i) 2)) (by decide) rfl ?_
          refine v_goto G 67 (decAt dd_GN_make 69 rfl) (by decide) ?_
          refine v_room (3 + 64 * (i + 1)) (656 + 4096 * (i + 1)) (by show 3 + 64 * i + 64 ≤ _; omega) (by show 656 + 4096 * i + 4096 ≤ _; omega) ?_
          exact ih (i + 1) _ _ _ _ (by omega) (by rw [hfo]; exact hI603) (hM1.gn hF603) (by rw [hF603.2.1 19 (by decide) (by decide) (by decide) (by decide)]; exact hD)
        · skip
          have hlt : i + 1 < c.length := by
            have := (nI_ltI (a := 2 * i + 2) (b := 2 * c.length) (by omega) (by omega)).mp (Int32.not_le.mp c97)
            omega
          obtain ⟨⟨N', fo⟩, hq'⟩ : ∃ z, c[i + 1]? = some z := ⟨c[i + 1], List.getElem?_eq_getElem hlt⟩
          have hfo := hgs fo (by rw [hq'])
          have p2 := (hC (i + 1) N' fo hq').2.1
          rw [← h11A] at p2
          refine v_aload_n G (decAt dd_GN_make 59 rfl) rfl ?_
          refine v_geta G (decAt dd_GN_make 60 rfl) f_GN_127 ?_
          refine v_iload_n G (decAt dd_GN_make 61 rfl) rfl ?_
          refine v_iconst G 3 (decAt dd_GN_make 62 rfl) (by decide) ?_
          refine v_iadd G (decAt dd_GN_make 63 rfl) ?_
          refine v_ri (y := (nI (2 * (i + 1) + 1))) (nI_add (2 * i) 3) ?_
          refine v_iald G 11 (2 * (i + 1) + 1) (decAt dd_GN_make 64 rfl) (by decide) rfl rfl (by omega) ?_
          refine v_ri (y := fo) p2 ?_
          refine v_goto G 112 (decAt dd_GN_make 65 rfl) (by decide) ?_
          refine v_callVv G (As := [.int (stv 2 N), .int x, .int (fo)]) (P := fun ρ' g' A' n' tx' => GnI (gone N x (fo) ((ht i).getD 0) (gfold c ht i)) g' A' n' ∧ GnF g1 A1 n1 g' A' n' ∧ tx' = tx) (rm := ({ frames := 11, cells := 64, slots := 4096, locals := 238 } : Room)) (decAt dd_GN_make 67 rfl) k_GN_151 (c_GN_one l hE hI1 (N := N) (dl := (ht i).getD 0) (a := x) (fo := (fo)) g0 g1' g2 g3 g4 hla (by rw [← hfo]; exact g6)) (by decide) rfl rfl rfl (Nat.le_of_ble_eq_true rfl) ⟨Nat.le_of_ble_eq_true rfl, Nat.le_of_ble_eq_true rfl⟩ ⟨by show 3 + 64 * i + 64 ≤ 3 + 64 * c.length; omega, by show 656 + 4096 * i + 4096 ≤ 656 + 4096 * c.length; omega⟩ ?_
          rintro ρ604 g604 A604 n604 tx604 ⟨hI604, hX604, etx⟩
          replace etx := etx.symm; subst etx
          have hF604 := GnF.trans (GnF.rf g1 A1 n1) hX604
          refine v_iinc_2 G (nI (2 * (i + 1))) (decAt dd_GN_make 68 rfl) ((nI_add (2 * i) 2)) (by decide) rfl ?_
          refine v_goto G 67 (decAt dd_GN_make 69 rfl) (by decide) ?_
          refine v_room (3 + 64 * (i + 1)) (656 + 4096 * (i + 1)) (by show 3 + 64 * i + 64 ≤ _; omega) (by show 656 + 4096 * i + 4096 ≤ _; omega) ?_
          exact ih (i + 1) _ _ _ _ (by omega) (by rw [hfo]; exact hI604) (hM1.gn hF604) (by rw [hF604.2.1 19 (by decide) (by decide) (by decide) (by decide)]; exact hD)
  refine v_aload_n G (decAt dd_GN_make 0 rfl) rfl ?_
  refine v_geto G (decAt dd_GN_make 1 rfl) f_GN_12 ?_
  refine v_iconst G 0 (decAt dd_GN_make 2 rfl) (by decide) ?_
  refine v_puti G (decAt dd_GN_make 3 rfl) f_GN_142 rfl rfl rfl ?_
  refine v_aload_n G (decAt dd_GN_make 4 rfl) rfl ?_
  refine v_iconst G 0 (decAt dd_GN_make 5 rfl) (by decide) ?_
  refine v_puti G (decAt dd_GN_make 6 rfl) f_GN_44 rfl rfl rfl ?_
  refine v_aload_n G (decAt dd_GN_make 7 rfl) rfl ?_
  refine v_iconst G 0 (decAt dd_GN_make 8 rfl) (by decide) ?_
  refine v_puti G (decAt dd_GN_make 9 rfl) f_GN_61 rfl rfl rfl ?_
  refine v_aload_n G (decAt dd_GN_make 10 rfl) rfl ?_
  refine v_iconst G 0 (decAt dd_GN_make 11 rfl) (by decide) ?_
  refine v_puti G (decAt dd_GN_make 12 rfl) f_GN_88 rfl rfl rfl ?_
  refine v_aload_n G (decAt dd_GN_make 13 rfl) rfl ?_
  refine v_aload_n G (decAt dd_GN_make 14 rfl) rfl ?_
  refine v_geti G (decAt dd_GN_make 15 rfl) f_GN_126 ?_
  refine v_ri (y := (nI 100)) (by simp only [up2]; exact hlb) ?_
  refine v_puti G (decAt dd_GN_make 16 rfl) f_GN_93 rfl rfl rfl ?_
  refine v_aload_n G (decAt dd_GN_make 17 rfl) rfl ?_
  refine v_iconst G 1 (decAt dd_GN_make 18 rfl) (by decide) ?_
  refine v_puti G (decAt dd_GN_make 19 rfl) f_GN_143 rfl rfl rfl ?_
  refine v_aload_n G (decAt dd_GN_make 20 rfl) rfl ?_
  refine v_geta G (decAt dd_GN_make 21 rfl) f_GN_25 ?_
  refine v_alen G 19 (decAt dd_GN_make 22 rfl) (by decide) ?_
  rcases hb19 with hb19 | hb19
  · skip
    refine v_ri (y := nI 64) (by rw [hb19]) ?_
    refine v_aload_n G (decAt dd_GN_make 23 rfl) rfl ?_
    refine v_geti G (decAt dd_GN_make 24 rfl) f_GN_93 ?_
    refine v_ri (y := (nI 100)) rfl ?_
    refine v_icmp_ge G 60 (decAt dd_GN_make 25 rfl) (by decide) (fun c45 => absurd c45 (by decide)) (fun _ => ?_)
    refine v_aload_n G (decAt dd_GN_make 26 rfl) rfl ?_
    refine v_iconst G 2 (decAt dd_GN_make 27 rfl) (by decide) ?_
    refine v_aload_n G (decAt dd_GN_make 28 rfl) rfl ?_
    refine v_geti G (decAt dd_GN_make 29 rfl) f_GN_93 ?_
    refine v_ri (y := (nI 100)) rfl ?_
    refine v_imul G (decAt dd_GN_make 30 rfl) ?_
    refine v_ri (y := (nI 200)) rfl ?_
    refine v_fresh G 40 200 (decAt dd_GN_make 31 rfl) (decAt dd_GN_make 32 rfl) tm_51 rfl rfl (by decide) kd40 rfl (by decide) (by decide) (by show 0 + 1 ≤ 3 + 64 * c.length; omega) (by show 0 + 200 ≤ 656 + 4096 * c.length; omega) f_GN_25 rfl (fun _ => rfl) (fun _ => rfl) (by decide) rfl (by decide +kernel) fun q => ?_
    refine v_room 1 200 (by decide) (by decide) ?_
    refine v_aload_n G (decAt dd_GN_make 33 rfl) rfl ?_
    refine v_aload_n G (decAt dd_GN_make 34 rfl) rfl ?_
    refine v_callVv G (As := [.ref (E.o 1)]) (rm := ({ frames := 2, cells := 2, slots := 456, locals := 49 } : Room)) (decAt dd_GN_make 35 rfl) k_GN_147 (c_GN_reckon l hE (c := c) (ht := ht) (g := (up2 (up2 (up2 (up2 (up2 (up2 g 4 1 0) 3 3 0) 3 4 0) 3 8 0) 3 9 (nI 100)) 3 6 1)) (A := (va_up A 19 (fun _ => 0))) (n := (va_up n 19 200)) hlen hc0 hT hL hall (by rw [va_up_ne _ _ (by decide)]; exact hC) (by simp only [up2]; exact hN) (by simp only [up2]; exact hlb) (by rw [va_up_ne _ _ (by decide)]; exact hb11) (by rw [va_up_ne _ _ (by decide)]; exact hb21) (by rw [va_up_ne _ _ (by decide)]; exact hb22) (by rw [va_up_ne _ _ (by decide)]; exact hb23) (by rw [va_up_ne _ _ (by decide)]; exact hb24) (by rw [va_up_self]; omega)) (by decide) rfl rfl rfl (Nat.le_of_ble_eq_true rfl) ⟨Nat.le_of_ble_eq_true rfl, Nat.le_of_ble_eq_true rfl⟩ ⟨by show 1 + 2 ≤ 3 + 64 * c.length; omega, by show 200 + 456 ≤ 656 + 4096 * c.length; omega⟩ ?_
    rintro ρ9 g9 A9 n9 tx9 ⟨hD, hg9, hA9, hn9, h23, h24, etx⟩
    replace etx := etx.symm; subst etx
    refine v_iconst G 0 (decAt dd_GN_make 36 rfl) (by decide) ?_
    refine v_istore_2 G (decAt dd_GN_make 37 rfl) (by decide) rfl ?_
    refine J67 c.length 0 _ g9 A9 n9 (by omega) ⟨⟨((hg9 3 3 (by decide)).trans (by simp only [up2]; rfl)), by show 0 ≤ 60; decide⟩, fun k hk => absurd hk (by show ¬ k < 0; omega), ⟨((hg9 4 1 (by decide)).trans (by simp only [up2]; rfl)), fun i v hi => (by cases hi)⟩, ⟨((hg9 3 8 (by decide)).trans (by simp only [up2]; rfl)), fun i v hi => (by cases hi), Nat.zero_le _, (by rw [hn9 20 (by decide) (by decide), va_up_ne _ _ (by decide)]; exact hb20)⟩, ((hg9 3 9 (by decide)).trans (by simp only [up2]; rfl)), ((hg9 3 4 (by decide)).trans (by simp only [up2]; rfl)), ((hg9 3 6 (by decide)).trans (by simp only [up2]; rfl)), (hg9 3 15 (by decide)).trans (by simp only [up2]; exact hsame), ((hn9 17 (by decide) (by decide)).trans (by rw [va_up_ne _ _ (by decide)]; exact hb17)), ((hn9 18 (by decide) (by decide)).trans (by rw [va_up_ne _ _ (by decide)]; exact hb18)), ((hn9 25 (by decide) (by decide)).trans (by rw [va_up_ne _ _ (by decide)]; exact hb25))⟩ ⟨fun k f a b => ?_, fun i hi => ?_, fun i a b c d => ?_, ?_, h23, h24⟩ hD
    · rw [hg9 k f (by omega), up2_ne (by omega), up2_ne (by omega), up2_ne (by omega), up2_ne (by omega), up2_ne (by omega), up2_ne (by omega)]
    · rw [hA9 i (by omega) (by omega) (by omega) (by omega) (by omega)]; exact va_up_ne _ _ (by omega)
    · rw [hn9 i c d]; exact va_up_ne _ _ a
    · rw [hn9 19 (by decide) (by decide)]; exact va_up_self _ _ _
  · skip
    refine v_ri (y := nI 200) (by rw [hb19]) ?_
    refine v_aload_n G (decAt dd_GN_make 23 rfl) rfl ?_
    refine v_geti G (decAt dd_GN_make 24 rfl) f_GN_93 ?_
    refine v_ri (y := (nI 100)) rfl ?_
    refine v_icmp_ge G 60 (decAt dd_GN_make 25 rfl) (by decide) (fun _ => ?_) (fun c45 => absurd c45 (by decide))
    refine v_room 1 200 (by decide) (by decide) ?_
    refine v_aload_n G (decAt dd_GN_make 33 rfl) rfl ?_
    refine v_aload_n G (decAt dd_GN_make 34 rfl) rfl ?_
    refine v_callVv G (As := [.ref (E.o 1)]) (rm := ({ frames := 2, cells := 2, slots := 456, locals := 49 } : Room)) (decAt dd_GN_make 35 rfl) k_GN_147 (c_GN_reckon l hE (c := c) (ht := ht) (g := (up2 (up2 (up2 (up2 (up2 (up2 g 4 1 0) 3 3 0) 3 4 0) 3 8 0) 3 9 (nI 100)) 3 6 1)) (A := A) (n := n) hlen hc0 hT hL hall (by exact hC) (by simp only [up2]; exact hN) (by simp only [up2]; exact hlb) hb11 hb21 hb22 hb23 hb24 (by omega)) (by decide) rfl rfl rfl (Nat.le_of_ble_eq_true rfl) ⟨Nat.le_of_ble_eq_true rfl, Nat.le_of_ble_eq_true rfl⟩ ⟨by show 1 + 2 ≤ 3 + 64 * c.length; omega, by show 200 + 456 ≤ 656 + 4096 * c.length; omega⟩ ?_
    rintro ρ9 g9 A9 n9 tx9 ⟨hD, hg9, hA9, hn9, h23, h24, etx⟩
    replace etx := etx.symm; subst etx
    refine v_iconst G 0 (decAt dd_GN_make 36 rfl) (by decide) ?_
    refine v_istore_2 G (decAt dd_GN_make 37 rfl) (by decide) rfl ?_
    refine J67 c.length 0 _ g9 A9 n9 (by omega) ⟨⟨((hg9 3 3 (by decide)).trans (by simp only [up2]; rfl)), by show 0 ≤ 60; decide⟩, fun k hk => absurd hk (by show ¬ k < 0; omega), ⟨((hg9 4 1 (by decide)).trans (by simp only [up2]; rfl)), fun i v hi => (by cases hi)⟩, ⟨((hg9 3 8 (by decide)).trans (by simp only [up2]; rfl)), fun i v hi => (by cases hi), Nat.zero_le _, (by rw [hn9 20 (by decide) (by decide)]; exact hb20)⟩, ((hg9 3 9 (by decide)).trans (by simp only [up2]; rfl)), ((hg9 3 4 (by decide)).trans (by simp only [up2]; rfl)), ((hg9 3 6 (by decide)).trans (by simp only [up2]; rfl)), (hg9 3 15 (by decide)).trans (by simp only [up2]; exact hsame), ((hn9 17 (by decide) (by decide)).trans hb17), ((hn9 18 (by decide) (by decide)).trans hb18), ((hn9 25 (by decide) (by decide)).trans hb25)⟩ ⟨fun k f a b => ?_, fun i hi => ?_, fun i a b c d => ?_, ?_, h23, h24⟩ hD
    · rw [hg9 k f (by omega), up2_ne (by omega), up2_ne (by omega), up2_ne (by omega), up2_ne (by omega), up2_ne (by omega), up2_ne (by omega)]
    · rw [hA9 i (by omega) (by omega) (by omega) (by omega) (by omega)]
    · rw [hn9 i c d]
    · rw [hn9 19 (by decide) (by decide)]; exact hb19
