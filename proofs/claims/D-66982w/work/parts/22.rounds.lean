/-! the class: whether no way goes round without fuel -/
/-- where way q goes on from instruction k -/
def fol (cd : Cod) (k q : Nat) : Option Nat := if q = 0 then (if op cd k = 18 ∨ op cd k = 10 then nx1 cd k else nx0 cd k) else if q = 1 then (if op cd k = 18 ∨ op cd k = 10 then nx0 cd k else nx1 cd k) else none
theorem fol_nx {cd : Cod} {k q t : Nat} (h : fol cd k q = some t) : Nx cd k t := by
  unfold fol at h
  split at h
  · split at h
    · exact Or.inr h
    · exact Or.inl h
  · split at h
    · split at h
      · exact Or.inl h
      · exact Or.inr h
    · cases h
theorem nx_fol {cd : Cod} {k t : Nat} (h : Nx cd k t) : fol cd k 0 = some t ∨ fol cd k 1 = some t := by
  unfold fol
  by_cases c : op cd k = 18 ∨ op cd k = 10
  · rw [if_pos rfl, if_pos c, if_neg (by decide), if_pos rfl, if_pos c]; exact h.symm
  · rw [if_pos rfl, if_neg c, if_neg (by decide), if_pos rfl, if_neg c]; exact h
theorem Rc.nx {cd : Cod} {k t n : Nat} {a : Int32} (h : Rc cd k) (hk : cd[k]? = some (n, a)) (hn : Nx cd k t) : Rc cd t := by
  obtain ⟨h0, hr⟩ := h
  rcases hn with q | q
  · exact ⟨_, hr.step ⟨n, a, hk, Or.inl ⟨q, rfl⟩⟩⟩
  · exact ⟨_, hr.step ⟨n, a, hk, Or.inr ⟨q, rfl⟩⟩⟩
def DI (cd : Cod) (Sn : Nat → Int32) : Prop := ∃ (rank : Nat → Nat) (K : Nat), ∀ k, k < cd.length → Sn k = 2 → rank k < K ∧ ∀ t, Nx cd k t → op cd t ≠ 15 → Sn t = 2 ∧ rank t < rank k
def PI (cd : Cod) (Sn Nt : Nat → Int32) : Option Nat → List Nat → Prop
  | _, [] => True
  | up, k :: r => (k < cd.length ∧ Sn k = 1 ∧ Rc cd k ∧ op cd k ≠ 15 ∧ (∃ q : Nat, q ≤ 2 ∧ Nt k = nI q ∧ ∀ q' t, q' < q → fol cd k q' = some t → op cd t ≠ 15 → Sn t = 2 ∨ up = some t) ∧ (∀ u, up = some u → Nx cd k u ∧ op cd u ≠ 15)) ∧ PI cd Sn Nt (some k) r
def sumQ (Nt : Nat → Int32) : List Nat → Nat
  | [] => 0
  | k :: r => (4 - (Nt k).toNatClampNeg) + sumQ Nt r
theorem sumQ_up {Nt : Nat → Int32} {k : Nat} {v : Int32} : ∀ {r : List Nat}, k ∉ r → sumQ (va_up Nt k v) r = sumQ Nt r
  | [], _ => rfl
  | a :: r, h => by
    have h1 : a ≠ k := fun z => h (by rw [z]; exact List.mem_cons_self)
    show (4 - (va_up Nt k v a).toNatClampNeg) + sumQ (va_up Nt k v) r = (4 - (Nt a).toNatClampNeg) + sumQ Nt r
    rw [va_up_ne _ _ h1, sumQ_up (fun z => h (List.mem_cons_of_mem _ z))]
/-- the path, when what is looked at away from it changes -/
theorem PI.ext {cd : Cod} {Sn Nt Sn' Nt' : Nat → Int32} : ∀ {π : List Nat} {up : Option Nat}, PI cd Sn Nt up π → (∀ k, k ∈ π → Sn' k = Sn k ∧ Nt' k = Nt k) → (∀ t, Sn t = 2 → Sn' t = 2) → PI cd Sn' Nt' up π
  | [], _, _, _, _ => trivial
  | k :: r, up, h, h1, h2 => by
    obtain ⟨⟨a1, a2, a3, a4, ⟨q, a5, a6, a7⟩, a8⟩, a9⟩ := h
    have hk := h1 k List.mem_cons_self
    exact ⟨⟨a1, hk.1.trans a2, a3, a4, ⟨q, a5, hk.2.trans a6, fun q' t b1 b2 b3 => (a7 q' t b1 b2 b3).imp (h2 t) id⟩, a8⟩, a9.ext (fun j hj => h1 j (List.mem_cons_of_mem _ hj)) h2⟩
theorem PI.popped {cd : Cod} {Sn Nt Sn' : Nat → Int32} {k : Nat} : ∀ {r : List Nat}, PI cd Sn Nt (some k) r → k ∉ r → (∀ j, j ≠ k → Sn' j = Sn j) → Sn' k = 2 → PI cd Sn' Nt none r
  | [], _, _, _, _ => trivial
  | a :: r, h, hn, h1, h2 => by
    obtain ⟨⟨a1, a2, a3, a4, ⟨q, a5, a6, a7⟩, a8⟩, a9⟩ := h
    have hak : a ≠ k := fun z => hn (by rw [z]; exact List.mem_cons_self)
    have up : ∀ t, Sn t = 2 → Sn' t = 2 := fun t ht => by
      by_cases e : t = k
      · rw [e]; exact h2
      · rw [h1 t e]; exact ht
    refine ⟨⟨a1, (h1 a hak).trans a2, a3, a4, ⟨q, a5, a6, fun q' t b1 b2 b3 => Or.inl ?_⟩, fun u hu => by cases hu⟩, a9.ext (fun j hj => ⟨h1 j (fun z => hn (by rw [← z]; exact List.mem_cons_of_mem _ hj)), rfl⟩) up⟩
    rcases a7 q' t b1 b2 b3 with z | z
    · exact up t z
    · cases z; exact h2
theorem PI.low {cd : Cod} {Sn Nt : Nat → Int32} {rank : Nat → Nat} (hr : ∀ i, op cd i ≠ 15 → Rc cd i → ∀ t, Nx cd i t → op cd t ≠ 15 → rank t < rank i) : ∀ {r : List Nat} {k : Nat}, PI cd Sn Nt (some k) r → ∀ t, t ∈ r → rank k < rank t
  | [], _, _, t, ht => by cases ht
  | a :: r, k, h, t, ht => by
    obtain ⟨⟨a1, a2, a3, a4, -, a8⟩, a9⟩ := h
    obtain ⟨u1, u2⟩ := a8 k rfl
    have h1 := hr a a4 a3 k u1 u2
    rcases List.mem_cons.mp ht with rfl | ht
    · exact h1
    · exact Nat.lt_trans h1 (PI.low hr a9 t ht)
theorem PI.cycle {cd : Cod} {Sn Nt : Nat → Int32} {k t : Nat} {r : List Nat} (h : PI cd Sn Nt none (k :: r)) (ht : t ∈ k :: r) (hn : Nx cd k t) (ho : op cd t ≠ 15) : ¬ Acy cd := by
  rintro ⟨rank, hr⟩
  obtain ⟨⟨a1, a2, a3, a4, -, -⟩, a9⟩ := h
  have h1 := hr k a4 a3 t hn ho
  rcases List.mem_cons.mp ht with rfl | ht
  · omega
  · have := PI.low hr a9 t ht
    omega
def S3 (cd : Cod) (Sn : Nat → Int32) (π : List Nat) : Prop := ∀ t, t < cd.length → Sn t = 0 ∨ (Sn t = 1 ∧ t ∈ π) ∨ Sn t = 2
theorem DI.up {cd : Cod} {Sn : Nat → Int32} {k : Nat} (h : DI cd Sn) (hs : ¬ Sn k = 2) (hk : ∀ t, Nx cd k t → op cd t ≠ 15 → Sn t = 2) (hlt : ∀ t, Nx cd k t → op cd t ≠ 15 → t < cd.length) : DI cd (va_up Sn k 2) := by
  obtain ⟨rank, K, h⟩ := h
  refine ⟨va_up rank k K, K + 1, fun j hj h2 => ?_⟩
  by_cases e : j = k
  · subst e
    rw [va_up_self]
    refine ⟨by omega, fun t ht ho => ?_⟩
    have h3 := hk t ht ho
    have hne : t ≠ j := fun z => hs (by rw [← z]; exact h3)
    rw [va_up_ne _ _ hne, va_up_ne _ _ hne]
    exact ⟨h3, (h t (hlt t ht ho) h3).1⟩
  · rw [va_up_ne _ _ e] at h2 ⊢
    obtain ⟨q1, q2⟩ := h j hj h2
    refine ⟨by omega, fun t ht ho => ?_⟩
    obtain ⟨q3, q4⟩ := q2 t ht ho
    have hne : t ≠ k := fun z => hs (by rw [← z]; exact q3)
    rw [va_up_ne _ _ hne, va_up_ne _ _ hne]
    exact ⟨q3, q4⟩
theorem DI.keep {cd : Cod} {Sn : Nat → Int32} {k : Nat} {v : Int32} (h : DI cd Sn) (hs : ¬ Sn k = 2) (hv : ¬ v = 2) : DI cd (va_up Sn k v) := by
  obtain ⟨rank, K, h⟩ := h
  refine ⟨rank, K, fun j hj h2 => ?_⟩
  by_cases e : j = k
  · subst e; rw [va_up_self] at h2; exact absurd h2 hv
  · rw [va_up_ne _ _ e] at h2
    obtain ⟨q1, q2⟩ := h j hj h2
    refine ⟨q1, fun t ht ho => ?_⟩
    obtain ⟨q3, q4⟩ := q2 t ht ho
    exact ⟨by rw [va_up_ne _ _ (fun z => hs (by rw [← z]; exact q3))]; exact q3, q4⟩
theorem nx_lt {cd : Cod} {k t : Nat} (h : Nx cd k t) (ho : op cd t ≠ 15) : t < cd.length := by
  rcases Nat.lt_or_ge t cd.length with q | q
  · exact q
  · exact absurd (op_out q) ho

set_option maxHeartbeats 4000000 in
theorem c_RC_follows (l : Launch) {E : Bs} (hE : Hb E) {ρ : Nat → Nat} {g A : Nat → Nat → Int32} {n : Nat → Nat} {tx : Value} {cd : Cod} {k q : Nat} (hn : RN n) (hsz : cd.length ≤ 400) (hC : CodeIs cd (A 0) (A 1)) (hL : LabC cd) (hla : ∀ lab, lab < 100 → A 2 lab = oI (lbl cd (nI lab))) (hk : k < cd.length) (hq : q ≤ 2) : CW l E DC AC y_RC_follows b_RC_follows 4 (some .int) ({ frames := 0, cells := 0, slots := 0, locals := 0 } : Room) [.ref (E.o 0), .int (nI k), .int (nI q)] ρ g A n tx (fun r ρ' g' A' n' tx' => r = some (.int (oI (fol cd k q))) ∧ ρ' = ρ ∧ g' = g ∧ A' = A ∧ n' = n ∧ tx' = tx) := by
  obtain ⟨hn0, hn1, hn2, hn3, hn4, hn5, hn6, hn7, hn8, hn9⟩ := hn
  refine CW.start [some (.ref (E.o 0)), some (.int (nI k)), some (.int (nI q)), none] hE (by decide) (Nat.le_of_ble_eq_true rfl) rfl ?_
  intro p e s m args below meth c G
  obtain ⟨⟨M, a⟩, hi0⟩ : ∃ q, cd[k]? = some q := ⟨cd[k], List.getElem?_eq_getElem hk⟩
  obtain ⟨hN1, hN2, hN3⟩ := hC k M a hi0
  have hop := op_at hi0
  have hlab : ∀ {a' : Int32} {tl : Nat}, inR a' 100 = true → lbl cd a' = some tl → ∃ lb : Nat, a' = nI lb ∧ lb < 100 ∧ A 2 lb = nI tl := fun {a' tl} h1 h2 => by
    obtain ⟨lb, q1, q2, -⟩ := inR_nI h1
    exact ⟨lb, q2, q1, by rw [hla lb q1, ← q2, h2]; rfl⟩
  rcases (show M = 0 ∨ M = 1 ∨ M = 2 ∨ M = 3 ∨ M = 4 ∨ M = 5 ∨ M = 6 ∨ M = 7 ∨ M = 8 ∨ M = 9 ∨ M = 10 ∨ M = 11 ∨ M = 12 ∨ M = 13 ∨ M = 14 ∨ M = 15 ∨ M = 16 ∨ M = 17 ∨ M = 18 ∨ M = 19 ∨ M = 20 by omega) with rfl | rfl | rfl | rfl | rfl | rfl | rfl | rfl | rfl | rfl | rfl | rfl | rfl | rfl | rfl | rfl | rfl | rfl | rfl | rfl | rfl
  · rcases (show q = 0 ∨ q = 1 ∨ q = 2 by omega) with rfl | rfl | rfl
    · skip
      refine v_aload_n G (decAt dd_RC_follows 0 rfl) rfl ?_
      refine v_geta G (decAt dd_RC_follows 1 rfl) f_RC_13 ?_
      refine v_iload_n G (decAt dd_RC_follows 2 rfl) rfl ?_
      refine v_iald G 0 _ (decAt dd_RC_follows 3 rfl) (by decide) rfl (by first | with_reducible rfl | with_reducible exact nI_1 _ | with_reducible exact nI_add _ _ | assumption) (by omega) ?_
      refine v_ri (y := nI 0) hN1 ?_
      refine v_istore_3 G (decAt dd_RC_follows 4 rfl) (by decide) rfl ?_
      refine v_iload_n G (decAt dd_RC_follows 5 rfl) rfl ?_
      refine v_bipush G 16 (decAt dd_RC_follows 6 rfl) (by decide) ?_
      refine v_icmp_eq G 24 (decAt dd_RC_follows 7 rfl) (by decide) (fun c10 => absurd c10 (by decide)) (fun _ => ?_)
      refine v_iload_n G (decAt dd_RC_follows 8 rfl) rfl ?_
      refine v_bipush G 17 (decAt dd_RC_follows 9 rfl) (by decide) ?_
      refine v_icmp_eq G 24 (decAt dd_RC_follows 10 rfl) (by decide) (fun c16 => absurd c16 (by decide)) (fun _ => ?_)
      refine v_iload_n G (decAt dd_RC_follows 11 rfl) rfl ?_
      refine v_iconst G 1 (decAt dd_RC_follows 12 rfl) (by decide) ?_
      refine v_icmp_le G 26 (decAt dd_RC_follows 13 rfl) (by decide) (fun _ => ?_) (fun c21 => absurd c21 (by decide))
      refine v_iload_n G (decAt dd_RC_follows 16 rfl) rfl ?_
      refine v_bipush G 18 (decAt dd_RC_follows 17 rfl) (by decide) ?_
      refine v_icmp_ne G 56 (decAt dd_RC_follows 18 rfl) (by decide) (fun _ => ?_) (fun c29 => absurd c29 (by decide))
      refine v_iload_n G (decAt dd_RC_follows 35 rfl) rfl ?_
      refine v_bipush G 10 (decAt dd_RC_follows 36 rfl) (by decide) ?_
      refine v_icmp_ne G 82 (decAt dd_RC_follows 37 rfl) (by decide) (fun _ => ?_) (fun c59 => absurd c59 (by decide))
      refine v_iload_n G (decAt dd_RC_follows 50 rfl) rfl ?_
      refine v_if_ne G 90 (decAt dd_RC_follows 51 rfl) (by decide) (fun c83 => absurd c83 (by decide)) (fun _ => ?_)
      refine v_iload_n G (decAt dd_RC_follows 52 rfl) rfl ?_
      refine v_iconst G 1 (decAt dd_RC_follows 53 rfl) (by decide) ?_
      refine v_iadd G (decAt dd_RC_follows 54 rfl) ?_
      exact v_iret G (decAt dd_RC_follows 55 rfl) rfl ⟨some_i (show _ = oI (fol cd k 0) by unfold fol nx0 nx1; rw [hop, hi0]; dsimp only; simp [oI, nI_1]; try rfl), rfl, rfl, rfl, rfl, rfl⟩
    · skip
      refine v_aload_n G (decAt dd_RC_follows 0 rfl) rfl ?_
      refine v_geta G (decAt dd_RC_follows 1 rfl) f_RC_13 ?_
      refine v_iload_n G (decAt dd_RC_follows 2 rfl) rfl ?_
      refine v_iald G 0 _ (decAt dd_RC_follows 3 rfl) (by decide) rfl (by first | with_reducible rfl | with_reducible exact nI_1 _ | with_reducible exact nI_add _ _ | assumption) (by omega) ?_
      refine v_ri (y := nI 0) hN1 ?_
      refine v_istore_3 G (decAt dd_RC_follows 4 rfl) (by decide) rfl ?_
      refine v_iload_n G (decAt dd_RC_follows 5 rfl) rfl ?_
      refine v_bipush G 16 (decAt dd_RC_follows 6 rfl) (by decide) ?_
      refine v_icmp_eq G 24 (decAt dd_RC_follows 7 rfl) (by decide) (fun c10 => absurd c10 (by decide)) (fun _ => ?_)
      refine v_iload_n G (decAt dd_RC_follows 8 rfl) rfl ?_
      refine v_bipush G 17 (decAt dd_RC_follows 9 rfl) (by decide) ?_
      refine v_icmp_eq G 24 (decAt dd_RC_follows 10 rfl) (by decide) (fun c16 => absurd c16 (by decide)) (fun _ => ?_)
      refine v_iload_n G (decAt dd_RC_follows 11 rfl) rfl ?_
      refine v_iconst G 1 (decAt dd_RC_follows 12 rfl) (by decide) ?_
      refine v_icmp_le G 26 (decAt dd_RC_follows 13 rfl) (by decide) (fun _ => ?_) (fun c21 => absurd c21 (by decide))
      refine v_iload_n G (decAt dd_RC_follows 16 rfl) rfl ?_
      refine v_bipush G 18 (decAt dd_RC_follows 17 rfl) (by decide) ?_
      refine v_icmp_ne G 56 (decAt dd_RC_follows 18 rfl) (by decide) (fun _ => ?_) (fun c29 => absurd c29 (by decide))
      refine v_iload_n G (decAt dd_RC_follows 35 rfl) rfl ?_
      refine v_bipush G 10 (decAt dd_RC_follows 36 rfl) (by decide) ?_
      refine v_icmp_ne G 82 (decAt dd_RC_follows 37 rfl) (by decide) (fun _ => ?_) (fun c59 => absurd c59 (by decide))
      refine v_iload_n G (decAt dd_RC_follows 50 rfl) rfl ?_
      refine v_if_ne G 90 (decAt dd_RC_follows 51 rfl) (by decide) (fun _ => ?_) (fun c83 => absurd c83 (by decide))
      refine v_iload_n G (decAt dd_RC_follows 56 rfl) rfl ?_
      refine v_bipush G 11 (decAt dd_RC_follows 57 rfl) (by decide) ?_
      refine v_icmp_eq G 102 (decAt dd_RC_follows 58 rfl) (by decide) (fun c93 => absurd c93 (by decide)) (fun _ => ?_)
      refine v_iload_n G (decAt dd_RC_follows 59 rfl) rfl ?_
      refine v_bipush G 12 (decAt dd_RC_follows 60 rfl) (by decide) ?_
      refine v_icmp_ne G 116 (decAt dd_RC_follows 61 rfl) (by decide) (fun _ => ?_) (fun c99 => absurd c99 (by decide))
      refine v_iconst G (-1) (decAt dd_RC_follows 70 rfl) (by decide) ?_
      exact v_iret G (decAt dd_RC_follows 71 rfl) rfl ⟨some_i (show _ = oI (fol cd k 1) by unfold fol nx0 nx1; rw [hop, hi0]; dsimp only; simp [oI, nI_1]; try rfl), rfl, rfl, rfl, rfl, rfl⟩
    · skip
      refine v_aload_n G (decAt dd_RC_follows 0 rfl) rfl ?_
      refine v_geta G (decAt dd_RC_follows 1 rfl) f_RC_13 ?_
      refine v_iload_n G (decAt dd_RC_follows 2 rfl) rfl ?_
      refine v_iald G 0 _ (decAt dd_RC_follows 3 rfl) (by decide) rfl (by first | with_reducible rfl | with_reducible exact nI_1 _ | with_reducible exact nI_add _ _ | assumption) (by omega) ?_
      refine v_ri (y := nI 0) hN1 ?_
      refine v_istore_3 G (decAt dd_RC_follows 4 rfl) (by decide) rfl ?_
      refine v_iload_n G (decAt dd_RC_follows 5 rfl) rfl ?_
      refine v_bipush G 16 (decAt dd_RC_follows 6 rfl) (by decide) ?_
      refine v_icmp_eq G 24 (decAt dd_RC_follows 7 rfl) (by decide) (fun c10 => absurd c10 (by decide)) (fun _ => ?_)
      refine v_iload_n G (decAt dd_RC_follows 8 rfl) rfl ?_
      refine v_bipush G 17 (decAt dd_RC_follows 9 rfl) (by decide) ?_
      refine v_icmp_eq G 24 (decAt dd_RC_follows 10 rfl) (by decide) (fun c16 => absurd c16 (by decide)) (fun _ => ?_)
      refine v_iload_n G (decAt dd_RC_follows 11 rfl) rfl ?_
      refine v_iconst G 1 (decAt dd_RC_follows 12 rfl) (by decide) ?_
      refine v_icmp_le G 26 (decAt dd_RC_follows 13 rfl) (by decide) (fun c21 => absurd c21 (by decide)) (fun _ => ?_)
      refine v_iconst G (-1) (decAt dd_RC_follows 14 rfl) (by decide) ?_
      exact v_iret G (decAt dd_RC_follows 15 rfl) rfl ⟨some_i (show _ = oI (fol cd k 2) by unfold fol nx0 nx1; rw [hop, hi0]; dsimp only; simp [oI, nI_1]; try rfl), rfl, rfl, rfl, rfl, rfl⟩
  · rcases (show q = 0 ∨ q = 1 ∨ q = 2 by omega) with rfl | rfl | rfl
    · skip
      refine v_aload_n G (decAt dd_RC_follows 0 rfl) rfl ?_
      refine v_geta G (decAt dd_RC_follows 1 rfl) f_RC_13 ?_
      refine v_iload_n G (decAt dd_RC_follows 2 rfl) rfl ?_
      refine v_iald G 0 _ (decAt dd_RC_follows 3 rfl) (by decide) rfl (by first | with_reducible rfl | with_reducible exact nI_1 _ | with_reducible exact nI_add _ _ | assumption) (by omega) ?_
      refine v_ri (y := nI 1) hN1 ?_
      refine v_istore_3 G (decAt dd_RC_follows 4 rfl) (by decide) rfl ?_
      refine v_iload_n G (decAt dd_RC_follows 5 rfl) rfl ?_
      refine v_bipush G 16 (decAt dd_RC_follows 6 rfl) (by decide) ?_
      refine v_icmp_eq G 24 (decAt dd_RC_follows 7 rfl) (by decide) (fun c10 => absurd c10 (by decide)) (fun _ => ?_)
      refine v_iload_n G (decAt dd_RC_follows 8 rfl) rfl ?_
      refine v_bipush G 17 (decAt dd_RC_follows 9 rfl) (by decide) ?_
      refine v_icmp_eq G 24 (decAt dd_RC_follows 10 rfl) (by decide) (fun c16 => absurd c16 (by decide)) (fun _ => ?_)
      refine v_iload_n G (decAt dd_RC_follows 11 rfl) rfl ?_
      refine v_iconst G 1 (decAt dd_RC_follows 12 rfl) (by decide) ?_
      refine v_icmp_le G 26 (decAt dd_RC_follows 13 rfl) (by decide) (fun _ => ?_) (fun c21 => absurd c21 (by decide))
      refine v_iload_n G (decAt dd_RC_follows 16 rfl) rfl ?_
      refine v_bipush G 18 (decAt dd_RC_follows 17 rfl) (by decide) ?_
      refine v_icmp_ne G 56 (decAt dd_RC_follows 18 rfl) (by decide) (fun _ => ?_) (fun c29 => absurd c29 (by decide))
      refine v_iload_n G (decAt dd_RC_follows 35 rfl) rfl ?_
      refine v_bipush G 10 (decAt dd_RC_follows 36 rfl) (by decide) ?_
      refine v_icmp_ne G 82 (decAt dd_RC_follows 37 rfl) (by decide) (fun _ => ?_) (fun c59 => absurd c59 (by decide))
      refine v_iload_n G (decAt dd_RC_follows 50 rfl) rfl ?_
      refine v_if_ne G 90 (decAt dd_RC_follows 51 rfl) (by decide) (fun c83 => absurd c83 (by decide)) (fun _ => ?_)
      refine v_iload_n G (decAt dd_RC_follows 52 rfl) rfl ?_
      refine v_iconst G 1 (decAt dd_RC_follows 53 rfl) (by decide) ?_
      refine v_iadd G (decAt dd_RC_follows 54 rfl) ?_
      exact v_iret G (decAt dd_RC_follows 55 rfl) rfl ⟨some_i (show _ = oI (fol cd k 0) by unfold fol nx0 nx1; rw [hop, hi0]; dsimp only; simp [oI, nI_1]; try rfl), rfl, rfl, rfl, rfl, rfl⟩
    · skip
      refine v_aload_n G (decAt dd_RC_follows 0 rfl) rfl ?_
      refine v_geta G (decAt dd_RC_follows 1 rfl) f_RC_13 ?_
      refine v_iload_n G (decAt dd_RC_follows 2 rfl) rfl ?_
      refine v_iald G 0 _ (decAt dd_RC_follows 3 rfl) (by decide) rfl (by first | with_reducible rfl | with_reducible exact nI_1 _ | with_reducible exact nI_add _ _ | assumption) (by omega) ?_
      refine v_ri (y := nI 1) hN1 ?_
      refine v_istore_3 G (decAt dd_RC_follows 4 rfl) (by decide) rfl ?_
      refine v_iload_n G (decAt dd_RC_follows 5 rfl) rfl ?_
      refine v_bipush G 16 (decAt dd_RC_follows 6 rfl) (by decide) ?_
      refine v_icmp_eq G 24 (decAt dd_RC_follows 7 rfl) (by decide) (fun c10 => absurd c10 (by decide)) (fun _ => ?_)
      refine v_iload_n G (decAt dd_RC_follows 8 rfl) rfl ?_
      refine v_bipush G 17 (decAt dd_RC_follows 9 rfl) (by decide) ?_
      refine v_icmp_eq G 24 (decAt dd_RC_follows 10 rfl) (by decide) (fun c16 => absurd c16 (by decide)) (fun _ => ?_)
      refine v_iload_n G (decAt dd_RC_follows 11 rfl) rfl ?_
      refine v_iconst G 1 (decAt dd_RC_follows 12 rfl) (by decide) ?_
      refine v_icmp_le G 26 (decAt dd_RC_follows 13 rfl) (by decide) (fun _ => ?_) (fun c21 => absurd c21 (by decide))
      refine v_iload_n G (decAt dd_RC_follows 16 rfl) rfl ?_
      refine v_bipush G 18 (decAt dd_RC_follows 17 rfl) (by decide) ?_
      refine v_icmp_ne G 56 (decAt dd_RC_follows 18 rfl) (by decide) (fun _ => ?_) (fun c29 => absurd c29 (by decide))
      refine v_iload_n G (decAt dd_RC_follows 35 rfl) rfl ?_
      refine v_bipush G 10 (decAt dd_RC_follows 36 rfl) (by decide) ?_
      refine v_icmp_ne G 82 (decAt dd_RC_follows 37 rfl) (by decide) (fun _ => ?_) (fun c59 => absurd c59 (by decide))
      refine v_iload_n G (decAt dd_RC_follows 50 rfl) rfl ?_
      refine v_if_ne G 90 (decAt dd_RC_follows 51 rfl) (by decide) (fun _ => ?_) (fun c83 => absurd c83 (by decide))
      refine v_iload_n G (decAt dd_RC_follows 56 rfl) rfl ?_
      refine v_bipush G 11 (decAt dd_RC_follows 57 rfl) (by decide) ?_
      refine v_icmp_eq G 102 (decAt dd_RC_follows 58 rfl) (by decide) (fun c93 => absurd c93 (by decide)) (fun _ => ?_)
      refine v_iload_n G (decAt dd_RC_follows 59 rfl) rfl ?_
      refine v_bipush G 12 (decAt dd_RC_follows 60 rfl) (by decide) ?_
      refine v_icmp_ne G 116 (decAt dd_RC_follows 61 rfl) (by decide) (fun _ => ?_) (fun c99 => absurd c99 (by decide))
      refine v_iconst G (-1) (decAt dd_RC_follows 70 rfl) (by decide) ?_
      exact v_iret G (decAt dd_RC_follows 71 rfl) rfl ⟨some_i (show _ = oI (fol cd k 1) by unfold fol nx0 nx1; rw [hop, hi0]; dsimp only; simp [oI, nI_1]; try rfl), rfl, rfl, rfl, rfl, rfl⟩
    · skip
      refine v_aload_n G (decAt dd_RC_follows 0 rfl) rfl ?_
      refine v_geta G (decAt dd_RC_follows 1 rfl) f_RC_13 ?_
      refine v_iload_n G (decAt dd_RC_follows 2 rfl) rfl ?_
      refine v_iald G 0 _ (decAt dd_RC_follows 3 rfl) (by decide) rfl (by first | with_reducible rfl | with_reducible exact nI_1 _ | with_reducible exact nI_add _ _ | assumption) (by omega) ?_
      refine v_ri (y := nI 1) hN1 ?_
      refine v_istore_3 G (decAt dd_RC_follows 4 rfl) (by decide) rfl ?_
      refine v_iload_n G (decAt dd_RC_follows 5 rfl) rfl ?_
      refine v_bipush G 16 (decAt dd_RC_follows 6 rfl) (by decide) ?_
      refine v_icmp_eq G 24 (decAt dd_RC_follows 7 rfl) (by decide) (fun c10 => absurd c10 (by decide)) (fun _ => ?_)
      refine v_iload_n G (decAt dd_RC_follows 8 rfl) rfl ?_
      refine v_bipush G 17 (decAt dd_RC_follows 9 rfl) (by decide) ?_
      refine v_icmp_eq G 24 (decAt dd_RC_follows 10 rfl) (by decide) (fun c16 => absurd c16 (by decide)) (fun _ => ?_)
      refine v_iload_n G (decAt dd_RC_follows 11 rfl) rfl ?_
      refine v_iconst G 1 (decAt dd_RC_follows 12 rfl) (by decide) ?_
      refine v_icmp_le G 26 (decAt dd_RC_follows 13 rfl) (by decide) (fun c21 => absurd c21 (by decide)) (fun _ => ?_)
      refine v_iconst G (-1) (decAt dd_RC_follows 14 rfl) (by decide) ?_
      exact v_iret G (decAt dd_RC_follows 15 rfl) rfl ⟨some_i (show _ = oI (fol cd k 2) by unfold fol nx0 nx1; rw [hop, hi0]; dsimp only; simp [oI, nI_1]; try rfl), rfl, rfl, rfl, rfl, rfl⟩
  · rcases (show q = 0 ∨ q = 1 ∨ q = 2 by omega) with rfl | rfl | rfl
    · skip
      refine v_aload_n G (decAt dd_RC_follows 0 rfl) rfl ?_
      refine v_geta G (decAt dd_RC_follows 1 rfl) f_RC_13 ?_
      refine v_iload_n G (decAt dd_RC_follows 2 rfl) rfl ?_
      refine v_iald G 0 _ (decAt dd_RC_follows 3 rfl) (by decide) rfl (by first | with_reducible rfl | with_reducible exact nI_1 _ | with_reducible exact nI_add _ _ | assumption) (by omega) ?_
      refine v_ri (y := nI 2) hN1 ?_
      refine v_istore_3 G (decAt dd_RC_follows 4 rfl) (by decide) rfl ?_
      refine v_iload_n G (decAt dd_RC_follows 5 rfl) rfl ?_
      refine v_bipush G 16 (decAt dd_RC_follows 6 rfl) (by decide) ?_
      refine v_icmp_eq G 24 (decAt dd_RC_follows 7 rfl) (by decide) (fun c10 => absurd c10 (by decide)) (fun _ => ?_)
      refine v_iload_n G (decAt dd_RC_follows 8 rfl) rfl ?_
      refine v_bipush G 17 (decAt dd_RC_follows 9 rfl) (by decide) ?_
      refine v_icmp_eq G 24 (decAt dd_RC_follows 10 rfl) (by decide) (fun c16 => absurd c16 (by decide)) (fun _ => ?_)
      refine v_iload_n G (decAt dd_RC_follows 11 rfl) rfl ?_
      refine v_iconst G 1 (decAt dd_RC_follows 12 rfl) (by decide) ?_
      refine v_icmp_le G 26 (decAt dd_RC_follows 13 rfl) (by decide) (fun _ => ?_) (fun c21 => absurd c21 (by decide))
      refine v_iload_n G (decAt dd_RC_follows 16 rfl) rfl ?_
      refine v_bipush G 18 (decAt dd_RC_follows 17 rfl) (by decide) ?_
      refine v_icmp_ne G 56 (decAt dd_RC_follows 18 rfl) (by decide) (fun _ => ?_) (fun c29 => absurd c29 (by decide))
      refine v_iload_n G (decAt dd_RC_follows 35 rfl) rfl ?_
      refine v_bipush G 10 (decAt dd_RC_follows 36 rfl) (by decide) ?_
      refine v_icmp_ne G 82 (decAt dd_RC_follows 37 rfl) (by decide) (fun _ => ?_) (fun c59 => absurd c59 (by decide))
      refine v_iload_n G (decAt dd_RC_follows 50 rfl) rfl ?_
      refine v_if_ne G 90 (decAt dd_RC_follows 51 rfl) (by decide) (fun c83 => absurd c83 (by decide)) (fun _ => ?_)
      refine v_iload_n G (decAt dd_RC_follows 52 rfl) rfl ?_
      refine v_iconst G 1 (decAt dd_RC_follows 53 rfl) (by decide) ?_
      refine v_iadd G (decAt dd_RC_follows 54 rfl) ?_
      exact v_iret G (decAt dd_RC_follows 55 rfl) rfl ⟨some_i (show _ = oI (fol cd k 0) by unfold fol nx0 nx1; rw [hop, hi0]; dsimp only; simp [oI, nI_1]; try rfl), rfl, rfl, rfl, rfl, rfl⟩
    · skip
      refine v_aload_n G (decAt dd_RC_follows 0 rfl) rfl ?_
      refine v_geta G (decAt dd_RC_follows 1 rfl) f_RC_13 ?_
      refine v_iload_n G (decAt dd_RC_follows 2 rfl) rfl ?_
      refine v_iald G 0 _ (decAt dd_RC_follows 3 rfl) (by decide) rfl (by first | with_reducible rfl | with_reducible exact nI_1 _ | with_reducible exact nI_add _ _ | assumption) (by omega) ?_
      refine v_ri (y := nI 2) hN1 ?_
      refine v_istore_3 G (decAt dd_RC_follows 4 rfl) (by decide) rfl ?_
      refine v_iload_n G (decAt dd_RC_follows 5 rfl) rfl ?_
      refine v_bipush G 16 (decAt dd_RC_follows 6 rfl) (by decide) ?_
      refine v_icmp_eq G 24 (decAt dd_RC_follows 7 rfl) (by decide) (fun c10 => absurd c10 (by decide)) (fun _ => ?_)
      refine v_iload_n G (decAt dd_RC_follows 8 rfl) rfl ?_
      refine v_bipush G 17 (decAt dd_RC_follows 9 rfl) (by decide) ?_
      refine v_icmp_eq G 24 (decAt dd_RC_follows 10 rfl) (by decide) (fun c16 => absurd c16 (by decide)) (fun _ => ?_)
      refine v_iload_n G (decAt dd_RC_follows 11 rfl) rfl ?_
      refine v_iconst G 1 (decAt dd_RC_follows 12 rfl) (by decide) ?_
      refine v_icmp_le G 26 (decAt dd_RC_follows 13 rfl) (by decide) (fun _ => ?_) (fun c21 => absurd c21 (by decide))
      refine v_iload_n G (decAt dd_RC_follows 16 rfl) rfl ?_
      refine v_bipush G 18 (decAt dd_RC_follows 17 rfl) (by decide) ?_
      refine v_icmp_ne G 56 (decAt dd_RC_follows 18 rfl) (by decide) (fun _ => ?_) (fun c29 => absurd c29 (by decide))
      refine v_iload_n G (decAt dd_RC_follows 35 rfl) rfl ?_
      refine v_bipush G 10 (decAt dd_RC_follows 36 rfl) (by decide) ?_
      refine v_icmp_ne G 82 (decAt dd_RC_follows 37 rfl) (by decide) (fun _ => ?_) (fun c59 => absurd c59 (by decide))
      refine v_iload_n G (decAt dd_RC_follows 50 rfl) rfl ?_
      refine v_if_ne G 90 (decAt dd_RC_follows 51 rfl) (by decide) (fun _ => ?_) (fun c83 => absurd c83 (by decide))
      refine v_iload_n G (decAt dd_RC_follows 56 rfl) rfl ?_
      refine v_bipush G 11 (decAt dd_RC_follows 57 rfl) (by decide) ?_
      refine v_icmp_eq G 102 (decAt dd_RC_follows 58 rfl) (by decide) (fun c93 => absurd c93 (by decide)) (fun _ => ?_)
      refine v_iload_n G (decAt dd_RC_follows 59 rfl) rfl ?_
      refine v_bipush G 12 (decAt dd_RC_follows 60 rfl) (by decide) ?_
      refine v_icmp_ne G 116 (decAt dd_RC_follows 61 rfl) (by decide) (fun _ => ?_) (fun c99 => absurd c99 (by decide))
      refine v_iconst G (-1) (decAt dd_RC_follows 70 rfl) (by decide) ?_
      exact v_iret G (decAt dd_RC_follows 71 rfl) rfl ⟨some_i (show _ = oI (fol cd k 1) by unfold fol nx0 nx1; rw [hop, hi0]; dsimp only; simp [oI, nI_1]; try rfl), rfl, rfl, rfl, rfl, rfl⟩
    · skip
      refine v_aload_n G (decAt dd_RC_follows 0 rfl) rfl ?_
      refine v_geta G (decAt dd_RC_follows 1 rfl) f_RC_13 ?_
      refine v_iload_n G (decAt dd_RC_follows 2 rfl) rfl ?_
      refine v_iald G 0 _ (decAt dd_RC_follows 3 rfl) (by decide) rfl (by first | with_reducible rfl | with_reducible exact nI_1 _ | with_reducible exact nI_add _ _ | assumption) (by omega) ?_
      refine v_ri (y := nI 2) hN1 ?_
      refine v_istore_3 G (decAt dd_RC_follows 4 rfl) (by decide) rfl ?_
      refine v_iload_n G (decAt dd_RC_follows 5 rfl) rfl ?_
      refine v_bipush G 16 (decAt dd_RC_follows 6 rfl) (by decide) ?_
      refine v_icmp_eq G 24 (decAt dd_RC_follows 7 rfl) (by decide) (fun c10 => absurd c10 (by decide)) (fun _ => ?_)
      refine v_iload_n G (decAt dd_RC_follows 8 rfl) rfl ?_
      refine v_bipush G 17 (decAt dd_RC_follows 9 rfl) (by decide) ?_
      refine v_icmp_eq G 24 (decAt dd_RC_follows 10 rfl) (by decide) (fun c16 => absurd c16 (by decide)) (fun _ => ?_)
      refine v_iload_n G (decAt dd_RC_follows 11 rfl) rfl ?_
      refine v_iconst G 1 (decAt dd_RC_follows 12 rfl) (by decide) ?_
      refine v_icmp_le G 26 (decAt dd_RC_follows 13 rfl) (by decide) (fun c21 => absurd c21 (by decide)) (fun _ => ?_)
      refine v_iconst G (-1) (decAt dd_RC_follows 14 rfl) (by decide) ?_
      exact v_iret G (decAt dd_RC_follows 15 rfl) rfl ⟨some_i (show _ = oI (fol cd k 2) by unfold fol nx0 nx1; rw [hop, hi0]; dsimp only; simp [oI, nI_1]; try rfl), rfl, rfl, rfl, rfl, rfl⟩
  · rcases (show q = 0 ∨ q = 1 ∨ q = 2 by omega) with rfl | rfl | rfl
    · skip
      refine v_aload_n G (decAt dd_RC_follows 0 rfl) rfl ?_
      refine v_geta G (decAt dd_RC_follows 1 rfl) f_RC_13 ?_
      refine v_iload_n G (decAt dd_RC_follows 2 rfl) rfl ?_
      refine v_iald G 0 _ (decAt dd_RC_follows 3 rfl) (by decide) rfl (by first | with_reducible rfl | with_reducible exact nI_1 _ | with_reducible exact nI_add _ _ | assumption) (by omega) ?_
      refine v_ri (y := nI 3) hN1 ?_
      refine v_istore_3 G (decAt dd_RC_follows 4 rfl) (by decide) rfl ?_
      refine v_iload_n G (decAt dd_RC_follows 5 rfl) rfl ?_
      refine v_bipush G 16 (decAt dd_RC_follows 6 rfl) (by decide) ?_
      refine v_icmp_eq G 24 (decAt dd_RC_follows 7 rfl) (by decide) (fun c10 => absurd c10 (by decide)) (fun _ => ?_)
      refine v_iload_n G (decAt dd_RC_follows 8 rfl) rfl ?_
      refine v_bipush G 17 (decAt dd_RC_follows 9 rfl) (by decide) ?_
      refine v_icmp_eq G 24 (decAt dd_RC_follows 10 rfl) (by decide) (fun c16 => absurd c16 (by decide)) (fun _ => ?_)
      refine v_iload_n G (decAt dd_RC_follows 11 rfl) rfl ?_
      refine v_iconst G 1 (decAt dd_RC_follows 12 rfl) (by decide) ?_
      refine v_icmp_le G 26 (decAt dd_RC_follows 13 rfl) (by decide) (fun _ => ?_) (fun c21 => absurd c21 (by decide))
      refine v_iload_n G (decAt dd_RC_follows 16 rfl) rfl ?_
      refine v_bipush G 18 (decAt dd_RC_follows 17 rfl) (by decide) ?_
      refine v_icmp_ne G 56 (decAt dd_RC_follows 18 rfl) (by decide) (fun _ => ?_) (fun c29 => absurd c29 (by decide))
      refine v_iload_n G (decAt dd_RC_follows 35 rfl) rfl ?_
      refine v_bipush G 10 (decAt dd_RC_follows 36 rfl) (by decide) ?_
      refine v_icmp_ne G 82 (decAt dd_RC_follows 37 rfl) (by decide) (fun _ => ?_) (fun c59 => absurd c59 (by decide))
      refine v_iload_n G (decAt dd_RC_follows 50 rfl) rfl ?_
      refine v_if_ne G 90 (decAt dd_RC_follows 51 rfl) (by decide) (fun c83 => absurd c83 (by decide)) (fun _ => ?_)
      refine v_iload_n G (decAt dd_RC_follows 52 rfl) rfl ?_
      refine v_iconst G 1 (decAt dd_RC_follows 53 rfl) (by decide) ?_
      refine v_iadd G (decAt dd_RC_follows 54 rfl) ?_
      exact v_iret G (decAt dd_RC_follows 55 rfl) rfl ⟨some_i (show _ = oI (fol cd k 0) by unfold fol nx0 nx1; rw [hop, hi0]; dsimp only; simp [oI, nI_1]; try rfl), rfl, rfl, rfl, rfl, rfl⟩
    · skip
      refine v_aload_n G (decAt dd_RC_follows 0 rfl) rfl ?_
      refine v_geta G (decAt dd_RC_follows 1 rfl) f_RC_13 ?_
      refine v_iload_n G (decAt dd_RC_follows 2 rfl) rfl ?_
      refine v_iald G 0 _ (decAt dd_RC_follows 3 rfl) (by decide) rfl (by first | with_reducible rfl | with_reducible exact nI_1 _ | with_reducible exact nI_add _ _ | assumption) (by omega) ?_
      refine v_ri (y := nI 3) hN1 ?_
      refine v_istore_3 G (decAt dd_RC_follows 4 rfl) (by decide) rfl ?_
      refine v_iload_n G (decAt dd_RC_follows 5 rfl) rfl ?_
      refine v_bipush G 16 (decAt dd_RC_follows 6 rfl) (by decide) ?_
      refine v_icmp_eq G 24 (decAt dd_RC_follows 7 rfl) (by decide) (fun c10 => absurd c10 (by decide)) (fun _ => ?_)
      refine v_iload_n G (decAt dd_RC_follows 8 rfl) rfl ?_
      refine v_bipush G 17 (decAt dd_RC_follows 9 rfl) (by decide) ?_
      refine v_icmp_eq G 24 (decAt dd_RC_follows 10 rfl) (by decide) (fun c16 => absurd c16 (by decide)) (fun _ => ?_)
      refine v_iload_n G (decAt dd_RC_follows 11 rfl) rfl ?_
      refine v_iconst G 1 (decAt dd_RC_follows 12 rfl) (by decide) ?_
      refine v_icmp_le G 26 (decAt dd_RC_follows 13 rfl) (by decide) (fun _ => ?_) (fun c21 => absurd c21 (by decide))
      refine v_iload_n G (decAt dd_RC_follows 16 rfl) rfl ?_
      refine v_bipush G 18 (decAt dd_RC_follows 17 rfl) (by decide) ?_
      refine v_icmp_ne G 56 (decAt dd_RC_follows 18 rfl) (by decide) (fun _ => ?_) (fun c29 => absurd c29 (by decide))
      refine v_iload_n G (decAt dd_RC_follows 35 rfl) rfl ?_
      refine v_bipush G 10 (decAt dd_RC_follows 36 rfl) (by decide) ?_
      refine v_icmp_ne G 82 (decAt dd_RC_follows 37 rfl) (by decide) (fun _ => ?_) (fun c59 => absurd c59 (by decide))
      refine v_iload_n G (decAt dd_RC_follows 50 rfl) rfl ?_
      refine v_if_ne G 90 (decAt dd_RC_follows 51 rfl) (by decide) (fun _ => ?_) (fun c83 => absurd c83 (by decide))
      refine v_iload_n G (decAt dd_RC_follows 56 rfl) rfl ?_
      refine v_bipush G 11 (decAt dd_RC_follows 57 rfl) (by decide) ?_
      refine v_icmp_eq G 102 (decAt dd_RC_follows 58 rfl) (by decide) (fun c93 => absurd c93 (by decide)) (fun _ => ?_)
      refine v_iload_n G (decAt dd_RC_follows 59 rfl) rfl ?_
      refine v_bipush G 12 (decAt dd_RC_follows 60 rfl) (by decide) ?_
      refine v_icmp_ne G 116 (decAt dd_RC_follows 61 rfl) (by decide) (fun _ => ?_) (fun c99 => absurd c99 (by decide))
      refine v_iconst G (-1) (decAt dd_RC_follows 70 rfl) (by decide) ?_
      exact v_iret G (decAt dd_RC_follows 71 rfl) rfl ⟨some_i (show _ = oI (fol cd k 1) by unfold fol nx0 nx1; rw [hop, hi0]; dsimp only; simp [oI, nI_1]; try rfl), rfl, rfl, rfl, rfl, rfl⟩
    · skip
      refine v_aload_n G (decAt dd_RC_follows 0 rfl) rfl ?_
      refine v_geta G (decAt dd_RC_follows 1 rfl) f_RC_13 ?_
      refine v_iload_n G (decAt dd_RC_follows 2 rfl) rfl ?_
      refine v_iald G 0 _ (decAt dd_RC_follows 3 rfl) (by decide) rfl (by first | with_reducible rfl | with_reducible exact nI_1 _ | with_reducible exact nI_add _ _ | assumption) (by omega) ?_
      refine v_ri (y := nI 3) hN1 ?_
      refine v_istore_3 G (decAt dd_RC_follows 4 rfl) (by decide) rfl ?_
      refine v_iload_n G (decAt dd_RC_follows 5 rfl) rfl ?_
      refine v_bipush G 16 (decAt dd_RC_follows 6 rfl) (by decide) ?_
      refine v_icmp_eq G 24 (decAt dd_RC_follows 7 rfl) (by decide) (fun c10 => absurd c10 (by decide)) (fun _ => ?_)
      refine v_iload_n G (decAt dd_RC_follows 8 rfl) rfl ?_
      refine v_bipush G 17 (decAt dd_RC_follows 9 rfl) (by decide) ?_
      refine v_icmp_eq G 24 (decAt dd_RC_follows 10 rfl) (by decide) (fun c16 => absurd c16 (by decide)) (fun _ => ?_)
      refine v_iload_n G (decAt dd_RC_follows 11 rfl) rfl ?_
      refine v_iconst G 1 (decAt dd_RC_follows 12 rfl) (by decide) ?_
      refine v_icmp_le G 26 (decAt dd_RC_follows 13 rfl) (by decide) (fun c21 => absurd c21 (by decide)) (fun _ => ?_)
      refine v_iconst G (-1) (decAt dd_RC_follows 14 rfl) (by decide) ?_
      exact v_iret G (decAt dd_RC_follows 15 rfl) rfl ⟨some_i (show _ = oI (fol cd k 2) by unfold fol nx0 nx1; rw [hop, hi0]; dsimp only; simp [oI, nI_1]; try rfl), rfl, rfl, rfl, rfl, rfl⟩
  · rcases (show q = 0 ∨ q = 1 ∨ q = 2 by omega) with rfl | rfl | rfl
    · skip
      refine v_aload_n G (decAt dd_RC_follows 0 rfl) rfl ?_
      refine v_geta G (decAt dd_RC_follows 1 rfl) f_RC_13 ?_
      refine v_iload_n G (decAt dd_RC_follows 2 rfl) rfl ?_
      refine v_iald G 0 _ (decAt dd_RC_follows 3 rfl) (by decide) rfl (by first | with_reducible rfl | with_reducible exact nI_1 _ | with_reducible exact nI_add _ _ | assumption) (by omega) ?_
      refine v_ri (y := nI 4) hN1 ?_
      refine v_istore_3 G (decAt dd_RC_follows 4 rfl) (by decide) rfl ?_
      refine v_iload_n G (decAt dd_RC_follows 5 rfl) rfl ?_
      refine v_bipush G 16 (decAt dd_RC_follows 6 rfl) (by decide) ?_
      refine v_icmp_eq G 24 (decAt dd_RC_follows 7 rfl) (by decide) (fun c10 => absurd c10 (by decide)) (fun _ => ?_)
      refine v_iload_n G (decAt dd_RC_follows 8 rfl) rfl ?_
      refine v_bipush G 17 (decAt dd_RC_follows 9 rfl) (by decide) ?_
      refine v_icmp_eq G 24 (decAt dd_RC_follows 10 rfl) (by decide) (fun c16 => absurd c16 (by decide)) (fun _ => ?_)
      refine v_iload_n G (decAt dd_RC_follows 11 rfl) rfl ?_
      refine v_iconst G 1 (decAt dd_RC_follows 12 rfl) (by decide) ?_
      refine v_icmp_le G 26 (decAt dd_RC_follows 13 rfl) (by decide) (fun _ => ?_) (fun c21 => absurd c21 (by decide))
      refine v_iload_n G (decAt dd_RC_follows 16 rfl) rfl ?_
      refine v_bipush G 18 (decAt dd_RC_follows 17 rfl) (by decide) ?_
      refine v_icmp_ne G 56 (decAt dd_RC_follows 18 rfl) (by decide) (fun _ => ?_) (fun c29 => absurd c29 (by decide))
      refine v_iload_n G (decAt dd_RC_follows 35 rfl) rfl ?_
      refine v_bipush G 10 (decAt dd_RC_follows 36 rfl) (by decide) ?_
      refine v_icmp_ne G 82 (decAt dd_RC_follows 37 rfl) (by decide) (fun _ => ?_) (fun c59 => absurd c59 (by decide))
      refine v_iload_n G (decAt dd_RC_follows 50 rfl) rfl ?_
      refine v_if_ne G 90 (decAt dd_RC_follows 51 rfl) (by decide) (fun c83 => absurd c83 (by decide)) (fun _ => ?_)
      refine v_iload_n G (decAt dd_RC_follows 52 rfl) rfl ?_
      refine v_iconst G 1 (decAt dd_RC_follows 53 rfl) (by decide) ?_
      refine v_iadd G (decAt dd_RC_follows 54 rfl) ?_
      exact v_iret G (decAt dd_RC_follows 55 rfl) rfl ⟨some_i (show _ = oI (fol cd k 0) by unfold fol nx0 nx1; rw [hop, hi0]; dsimp only; simp [oI, nI_1]; try rfl), rfl, rfl, rfl, rfl, rfl⟩
    · skip
      refine v_aload_n G (decAt dd_RC_follows 0 rfl) rfl ?_
      refine v_geta G (decAt dd_RC_follows 1 rfl) f_RC_13 ?_
      refine v_iload_n G (decAt dd_RC_follows 2 rfl) rfl ?_
      refine v_iald G 0 _ (decAt dd_RC_follows 3 rfl) (by decide) rfl (by first | with_reducible rfl | with_reducible exact nI_1 _ | with_reducible exact nI_add _ _ | assumption) (by omega) ?_
      refine v_ri (y := nI 4) hN1 ?_
      refine v_istore_3 G (decAt dd_RC_follows 4 rfl) (by decide) rfl ?_
      refine v_iload_n G (decAt dd_RC_follows 5 rfl) rfl ?_
      refine v_bipush G 16 (decAt dd_RC_follows 6 rfl) (by decide) ?_
      refine v_icmp_eq G 24 (decAt dd_RC_follows 7 rfl) (by decide) (fun c10 => absurd c10 (by decide)) (fun _ => ?_)
      refine v_iload_n G (decAt dd_RC_follows 8 rfl) rfl ?_
      refine v_bipush G 17 (decAt dd_RC_follows 9 rfl) (by decide) ?_
      refine v_icmp_eq G 24 (decAt dd_RC_follows 10 rfl) (by decide) (fun c16 => absurd c16 (by decide)) (fun _ => ?_)
      refine v_iload_n G (decAt dd_RC_follows 11 rfl) rfl ?_
      refine v_iconst G 1 (decAt dd_RC_follows 12 rfl) (by decide) ?_
      refine v_icmp_le G 26 (decAt dd_RC_follows 13 rfl) (by decide) (fun _ => ?_) (fun c21 => absurd c21 (by decide))
      refine v_iload_n G (decAt dd_RC_follows 16 rfl) rfl ?_
      refine v_bipush G 18 (decAt dd_RC_follows 17 rfl) (by decide) ?_
      refine v_icmp_ne G 56 (decAt dd_RC_follows 18 rfl) (by decide) (fun _ => ?_) (fun c29 => absurd c29 (by decide))
      refine v_iload_n G (decAt dd_RC_follows 35 rfl) rfl ?_
      refine v_bipush G 10 (decAt dd_RC_follows 36 rfl) (by decide) ?_
      refine v_icmp_ne G 82 (decAt dd_RC_follows 37 rfl) (by decide) (fun _ => ?_) (fun c59 => absurd c59 (by decide))
      refine v_iload_n G (decAt dd_RC_follows 50 rfl) rfl ?_
      refine v_if_ne G 90 (decAt dd_RC_follows 51 rfl) (by decide) (fun _ => ?_) (fun c83 => absurd c83 (by decide))
      refine v_iload_n G (decAt dd_RC_follows 56 rfl) rfl ?_
      refine v_bipush G 11 (decAt dd_RC_follows 57 rfl) (by decide) ?_
      refine v_icmp_eq G 102 (decAt dd_RC_follows 58 rfl) (by decide) (fun c93 => absurd c93 (by decide)) (fun _ => ?_)
      refine v_iload_n G (decAt dd_RC_follows 59 rfl) rfl ?_
      refine v_bipush G 12 (decAt dd_RC_follows 60 rfl) (by decide) ?_
      refine v_icmp_ne G 116 (decAt dd_RC_follows 61 rfl) (by decide) (fun _ => ?_) (fun c99 => absurd c99 (by decide))
      refine v_iconst G (-1) (decAt dd_RC_follows 70 rfl) (by decide) ?_
      exact v_iret G (decAt dd_RC_follows 71 rfl) rfl ⟨some_i (show _ = oI (fol cd k 1) by unfold fol nx0 nx1; rw [hop, hi0]; dsimp only; simp [oI, nI_1]; try rfl), rfl, rfl, rfl, rfl, rfl⟩
    · skip
      refine v_aload_n G (decAt dd_RC_follows 0 rfl) rfl ?_
      refine v_geta G (decAt dd_RC_follows 1 rfl) f_RC_13 ?_
      refine v_iload_n G (decAt dd_RC_follows 2 rfl) rfl ?_
      refine v_iald G 0 _ (decAt dd_RC_follows 3 rfl) (by decide) rfl (by first | with_reducible rfl | with_reducible exact nI_1 _ | with_reducible exact nI_add _ _ | assumption) (by omega) ?_
      refine v_ri (y := nI 4) hN1 ?_
      refine v_istore_3 G (decAt dd_RC_follows 4 rfl) (by decide) rfl ?_
      refine v_iload_n G (decAt dd_RC_follows 5 rfl) rfl ?_
      refine v_bipush G 16 (decAt dd_RC_follows 6 rfl) (by decide) ?_
      refine v_icmp_eq G 24 (decAt dd_RC_follows 7 rfl) (by decide) (fun c10 => absurd c10 (by decide)) (fun _ => ?_)
      refine v_iload_n G (decAt dd_RC_follows 8 rfl) rfl ?_
      refine v_bipush G 17 (decAt dd_RC_follows 9 rfl) (by decide) ?_
      refine v_icmp_eq G 24 (decAt dd_RC_follows 10 rfl) (by decide) (fun c16 => absurd c16 (by decide)) (fun _ => ?_)
      refine v_iload_n G (decAt dd_RC_follows 11 rfl) rfl ?_
      refine v_iconst G 1 (decAt dd_RC_follows 12 rfl) (by decide) ?_
      refine v_icmp_le G 26 (decAt dd_RC_follows 13 rfl) (by decide) (fun c21 => absurd c21 (by decide)) (fun _ => ?_)
      refine v_iconst G (-1) (decAt dd_RC_follows 14 rfl) (by decide) ?_
      exact v_iret G (decAt dd_RC_follows 15 rfl) rfl ⟨some_i (show _ = oI (fol cd k 2) by unfold fol nx0 nx1; rw [hop, hi0]; dsimp only; simp [oI, nI_1]; try rfl), rfl, rfl, rfl, rfl, rfl⟩
  · rcases (show q = 0 ∨ q = 1 ∨ q = 2 by omega) with rfl | rfl | rfl
    · skip
      refine v_aload_n G (decAt dd_RC_follows 0 rfl) rfl ?_
      refine v_geta G (decAt dd_RC_follows 1 rfl) f_RC_13 ?_
      refine v_iload_n G (decAt dd_RC_follows 2 rfl) rfl ?_
      refine v_iald G 0 _ (decAt dd_RC_follows 3 rfl) (by decide) rfl (by first | with_reducible rfl | with_reducible exact nI_1 _ | with_reducible exact nI_add _ _ | assumption) (by omega) ?_
      refine v_ri (y := nI 5) hN1 ?_
      refine v_istore_3 G (decAt dd_RC_follows 4 rfl) (by decide) rfl ?_
      refine v_iload_n G (decAt dd_RC_follows 5 rfl) rfl ?_
      refine v_bipush G 16 (decAt dd_RC_follows 6 rfl) (by decide) ?_
      refine v_icmp_eq G 24 (decAt dd_RC_follows 7 rfl) (by decide) (fun c10 => absurd c10 (by decide)) (fun _ => ?_)
      refine v_iload_n G (decAt dd_RC_follows 8 rfl) rfl ?_
      refine v_bipush G 17 (decAt dd_RC_follows 9 rfl) (by decide) ?_
      refine v_icmp_eq G 24 (decAt dd_RC_follows 10 rfl) (by decide) (fun c16 => absurd c16 (by decide)) (fun _ => ?_)
      refine v_iload_n G (decAt dd_RC_follows 11 rfl) rfl ?_
      refine v_iconst G 1 (decAt dd_RC_follows 12 rfl) (by decide) ?_
      refine v_icmp_le G 26 (decAt dd_RC_follows 13 rfl) (by decide) (fun _ => ?_) (fun c21 => absurd c21 (by decide))
      refine v_iload_n G (decAt dd_RC_follows 16 rfl) rfl ?_
      refine v_bipush G 18 (decAt dd_RC_follows 17 rfl) (by decide) ?_
      refine v_icmp_ne G 56 (decAt dd_RC_follows 18 rfl) (by decide) (fun _ => ?_) (fun c29 => absurd c29 (by decide))
      refine v_iload_n G (decAt dd_RC_follows 35 rfl) rfl ?_
      refine v_bipush G 10 (decAt dd_RC_follows 36 rfl) (by decide) ?_
      refine v_icmp_ne G 82 (decAt dd_RC_follows 37 rfl) (by decide) (fun _ => ?_) (fun c59 => absurd c59 (by decide))
      refine v_iload_n G (decAt dd_RC_follows 50 rfl) rfl ?_
      refine v_if_ne G 90 (decAt dd_RC_follows 51 rfl) (by decide) (fun c83 => absurd c83 (by decide)) (fun _ => ?_)
      refine v_iload_n G (decAt dd_RC_follows 52 rfl) rfl ?_
      refine v_iconst G 1 (decAt dd_RC_follows 53 rfl) (by decide) ?_
      refine v_iadd G (decAt dd_RC_follows 54 rfl) ?_
      exact v_iret G (decAt dd_RC_follows 55 rfl) rfl ⟨some_i (show _ = oI (fol cd k 0) by unfold fol nx0 nx1; rw [hop, hi0]; dsimp only; simp [oI, nI_1]; try rfl), rfl, rfl, rfl, rfl, rfl⟩
    · skip
      refine v_aload_n G (decAt dd_RC_follows 0 rfl) rfl ?_
      refine v_geta G (decAt dd_RC_follows 1 rfl) f_RC_13 ?_
      refine v_iload_n G (decAt dd_RC_follows 2 rfl) rfl ?_
      refine v_iald G 0 _ (decAt dd_RC_follows 3 rfl) (by decide) rfl (by first | with_reducible rfl | with_reducible exact nI_1 _ | with_reducible exact nI_add _ _ | assumption) (by omega) ?_
      refine v_ri (y := nI 5) hN1 ?_
      refine v_istore_3 G (decAt dd_RC_follows 4 rfl) (by decide) rfl ?_
      refine v_iload_n G (decAt dd_RC_follows 5 rfl) rfl ?_
      refine v_bipush G 16 (decAt dd_RC_follows 6 rfl) (by decide) ?_
      refine v_icmp_eq G 24 (decAt dd_RC_follows 7 rfl) (by decide) (fun c10 => absurd c10 (by decide)) (fun _ => ?_)
      refine v_iload_n G (decAt dd_RC_follows 8 rfl) rfl ?_
      refine v_bipush G 17 (decAt dd_RC_follows 9 rfl) (by decide) ?_
      refine v_icmp_eq G 24 (decAt dd_RC_follows 10 rfl) (by decide) (fun c16 => absurd c16 (by decide)) (fun _ => ?_)
      refine v_iload_n G (decAt dd_RC_follows 11 rfl) rfl ?_
      refine v_iconst G 1 (decAt dd_RC_follows 12 rfl) (by decide) ?_
      refine v_icmp_le G 26 (decAt dd_RC_follows 13 rfl) (by decide) (fun _ => ?_) (fun c21 => absurd c21 (by decide))
      refine v_iload_n G (decAt dd_RC_follows 16 rfl) rfl ?_
      refine v_bipush G 18 (decAt dd_RC_follows 17 rfl) (by decide) ?_
      refine v_icmp_ne G 56 (decAt dd_RC_follows 18 rfl) (by decide) (fun _ => ?_) (fun c29 => absurd c29 (by decide))
      refine v_iload_n G (decAt dd_RC_follows 35 rfl) rfl ?_
      refine v_bipush G 10 (decAt dd_RC_follows 36 rfl) (by decide) ?_
      refine v_icmp_ne G 82 (decAt dd_RC_follows 37 rfl) (by decide) (fun _ => ?_) (fun c59 => absurd c59 (by decide))
      refine v_iload_n G (decAt dd_RC_follows 50 rfl) rfl ?_
      refine v_if_ne G 90 (decAt dd_RC_follows 51 rfl) (by decide) (fun _ => ?_) (fun c83 => absurd c83 (by decide))
      refine v_iload_n G (decAt dd_RC_follows 56 rfl) rfl ?_
      refine v_bipush G 11 (decAt dd_RC_follows 57 rfl) (by decide) ?_
      refine v_icmp_eq G 102 (decAt dd_RC_follows 58 rfl) (by decide) (fun c93 => absurd c93 (by decide)) (fun _ => ?_)
      refine v_iload_n G (decAt dd_RC_follows 59 rfl) rfl ?_
      refine v_bipush G 12 (decAt dd_RC_follows 60 rfl) (by decide) ?_
      refine v_icmp_ne G 116 (decAt dd_RC_follows 61 rfl) (by decide) (fun _ => ?_) (fun c99 => absurd c99 (by decide))
      refine v_iconst G (-1) (decAt dd_RC_follows 70 rfl) (by decide) ?_
      exact v_iret G (decAt dd_RC_follows 71 rfl) rfl ⟨some_i (show _ = oI (fol cd k 1) by unfold fol nx0 nx1; rw [hop, hi0]; dsimp only; simp [oI, nI_1]; try rfl), rfl, rfl, rfl, rfl, rfl⟩
    · skip
      refine v_aload_n G (decAt dd_RC_follows 0 rfl) rfl ?_
      refine v_geta G (decAt dd_RC_follows 1 rfl) f_RC_13 ?_
      refine v_iload_n G (decAt dd_RC_follows 2 rfl) rfl ?_
      refine v_iald G 0 _ (decAt dd_RC_follows 3 rfl) (by decide) rfl (by first | with_reducible rfl | with_reducible exact nI_1 _ | with_reducible exact nI_add _ _ | assumption) (by omega) ?_
      refine v_ri (y := nI 5) hN1 ?_
      refine v_istore_3 G (decAt dd_RC_follows 4 rfl) (by decide) rfl ?_
      refine v_iload_n G (decAt dd_RC_follows 5 rfl) rfl ?_
      refine v_bipush G 16 (decAt dd_RC_follows 6 rfl) (by decide) ?_
      refine v_icmp_eq G 24 (decAt dd_RC_follows 7 rfl) (by decide) (fun c10 => absurd c10 (by decide)) (fun _ => ?_)
      refine v_iload_n G (decAt dd_RC_follows 8 rfl) rfl ?_
      refine v_bipush G 17 (decAt dd_RC_follows 9 rfl) (by decide) ?_
      refine v_icmp_eq G 24 (decAt dd_RC_follows 10 rfl) (by decide) (fun c16 => absurd c16 (by decide)) (fun _ => ?_)
      refine v_iload_n G (decAt dd_RC_follows 11 rfl) rfl ?_
      refine v_iconst G 1 (decAt dd_RC_follows 12 rfl) (by decide) ?_
      refine v_icmp_le G 26 (decAt dd_RC_follows 13 rfl) (by decide) (fun c21 => absurd c21 (by decide)) (fun _ => ?_)
      refine v_iconst G (-1) (decAt dd_RC_follows 14 rfl) (by decide) ?_
      exact v_iret G (decAt dd_RC_follows 15 rfl) rfl ⟨some_i (show _ = oI (fol cd k 2) by unfold fol nx0 nx1; rw [hop, hi0]; dsimp only; simp [oI, nI_1]; try rfl), rfl, rfl, rfl, rfl, rfl⟩
  · rcases (show q = 0 ∨ q = 1 ∨ q = 2 by omega) with rfl | rfl | rfl
    · skip
      refine v_aload_n G (decAt dd_RC_follows 0 rfl) rfl ?_
      refine v_geta G (decAt dd_RC_follows 1 rfl) f_RC_13 ?_
      refine v_iload_n G (decAt dd_RC_follows 2 rfl) rfl ?_
      refine v_iald G 0 _ (decAt dd_RC_follows 3 rfl) (by decide) rfl (by first | with_reducible rfl | with_reducible exact nI_1 _ | with_reducible exact nI_add _ _ | assumption) (by omega) ?_
      refine v_ri (y := nI 6) hN1 ?_
      refine v_istore_3 G (decAt dd_RC_follows 4 rfl) (by decide) rfl ?_
      refine v_iload_n G (decAt dd_RC_follows 5 rfl) rfl ?_
      refine v_bipush G 16 (decAt dd_RC_follows 6 rfl) (by decide) ?_
      refine v_icmp_eq G 24 (decAt dd_RC_follows 7 rfl) (by decide) (fun c10 => absurd c10 (by decide)) (fun _ => ?_)
      refine v_iload_n G (decAt dd_RC_follows 8 rfl) rfl ?_
      refine v_bipush G 17 (decAt dd_RC_follows 9 rfl) (by decide) ?_
      refine v_icmp_eq G 24 (decAt dd_RC_follows 10 rfl) (by decide) (fun c16 => absurd c16 (by decide)) (fun _ => ?_)
      refine v_iload_n G (decAt dd_RC_follows 11 rfl) rfl ?_
      refine v_iconst G 1 (decAt dd_RC_follows 12 rfl) (by decide) ?_
      refine v_icmp_le G 26 (decAt dd_RC_follows 13 rfl) (by decide) (fun _ => ?_) (fun c21 => absurd c21 (by decide))
      refine v_iload_n G (decAt dd_RC_follows 16 rfl) rfl ?_
      refine v_bipush G 18 (decAt dd_RC_follows 17 rfl) (by decide) ?_
      refine v_icmp_ne G 56 (decAt dd_RC_follows 18 rfl) (by decide) (fun _ => ?_) (fun c29 => absurd c29 (by decide))
      refine v_iload_n G (decAt dd_RC_follows 35 rfl) rfl ?_
      refine v_bipush G 10 (decAt dd_RC_follows 36 rfl) (by decide) ?_
      refine v_icmp_ne G 82 (decAt dd_RC_follows 37 rfl) (by decide) (fun _ => ?_) (fun c59 => absurd c59 (by decide))
      refine v_iload_n G (decAt dd_RC_follows 50 rfl) rfl ?_
      refine v_if_ne G 90 (decAt dd_RC_follows 51 rfl) (by decide) (fun c83 => absurd c83 (by decide)) (fun _ => ?_)
      refine v_iload_n G (decAt dd_RC_follows 52 rfl) rfl ?_
      refine v_iconst G 1 (decAt dd_RC_follows 53 rfl) (by decide) ?_
      refine v_iadd G (decAt dd_RC_follows 54 rfl) ?_
      exact v_iret G (decAt dd_RC_follows 55 rfl) rfl ⟨some_i (show _ = oI (fol cd k 0) by unfold fol nx0 nx1; rw [hop, hi0]; dsimp only; simp [oI, nI_1]; try rfl), rfl, rfl, rfl, rfl, rfl⟩
    · skip
      refine v_aload_n G (decAt dd_RC_follows 0 rfl) rfl ?_
      refine v_geta G (decAt dd_RC_follows 1 rfl) f_RC_13 ?_
      refine v_iload_n G (decAt dd_RC_follows 2 rfl) rfl ?_
      refine v_iald G 0 _ (decAt dd_RC_follows 3 rfl) (by decide) rfl (by first | with_reducible rfl | with_reducible exact nI_1 _ | with_reducible exact nI_add _ _ | assumption) (by omega) ?_
      refine v_ri (y := nI 6) hN1 ?_
      refine v_istore_3 G (decAt dd_RC_follows 4 rfl) (by decide) rfl ?_
      refine v_iload_n G (decAt dd_RC_follows 5 rfl) rfl ?_
      refine v_bipush G 16 (decAt dd_RC_follows 6 rfl) (by decide) ?_
      refine v_icmp_eq G 24 (decAt dd_RC_follows 7 rfl) (by decide) (fun c10 => absurd c10 (by decide)) (fun _ => ?_)
      refine v_iload_n G (decAt dd_RC_follows 8 rfl) rfl ?_
      refine v_bipush G 17 (decAt dd_RC_follows 9 rfl) (by decide) ?_
      refine v_icmp_eq G 24 (decAt dd_RC_follows 10 rfl) (by decide) (fun c16 => absurd c16 (by decide)) (fun _ => ?_)
      refine v_iload_n G (decAt dd_RC_follows 11 rfl) rfl ?_
      refine v_iconst G 1 (decAt dd_RC_follows 12 rfl) (by decide) ?_
      refine v_icmp_le G 26 (decAt dd_RC_follows 13 rfl) (by decide) (fun _ => ?_) (fun c21 => absurd c21 (by decide))
      refine v_iload_n G (decAt dd_RC_follows 16 rfl) rfl ?_
      refine v_bipush G 18 (decAt dd_RC_follows 17 rfl) (by decide) ?_
      refine v_icmp_ne G 56 (decAt dd_RC_follows 18 rfl) (by decide) (fun _ => ?_) (fun c29 => absurd c29 (by decide))
      refine v_iload_n G (decAt dd_RC_follows 35 rfl) rfl ?_
      refine v_bipush G 10 (decAt dd_RC_follows 36 rfl) (by decide) ?_
      refine v_icmp_ne G 82 (decAt dd_RC_follows 37 rfl) (by decide) (fun _ => ?_) (fun c59 => absurd c59 (by decide))
      refine v_iload_n G (decAt dd_RC_follows 50 rfl) rfl ?_
      refine v_if_ne G 90 (decAt dd_RC_follows 51 rfl) (by decide) (fun _ => ?_) (fun c83 => absurd c83 (by decide))
      refine v_iload_n G (decAt dd_RC_follows 56 rfl) rfl ?_
      refine v_bipush G 11 (decAt dd_RC_follows 57 rfl) (by decide) ?_
      refine v_icmp_eq G 102 (decAt dd_RC_follows 58 rfl) (by decide) (fun c93 => absurd c93 (by decide)) (fun _ => ?_)
      refine v_iload_n G (decAt dd_RC_follows 59 rfl) rfl ?_
      refine v_bipush G 12 (decAt dd_RC_follows 60 rfl) (by decide) ?_
      refine v_icmp_ne G 116 (decAt dd_RC_follows 61 rfl) (by decide) (fun _ => ?_) (fun c99 => absurd c99 (by decide))
      refine v_iconst G (-1) (decAt dd_RC_follows 70 rfl) (by decide) ?_
      exact v_iret G (decAt dd_RC_follows 71 rfl) rfl ⟨some_i (show _ = oI (fol cd k 1) by unfold fol nx0 nx1; rw [hop, hi0]; dsimp only; simp [oI, nI_1]; try rfl), rfl, rfl, rfl, rfl, rfl⟩
    · skip
      refine v_aload_n G (decAt dd_RC_follows 0 rfl) rfl ?_
      refine v_geta G (decAt dd_RC_follows 1 rfl) f_RC_13 ?_
      refine v_iload_n G (decAt dd_RC_follows 2 rfl) rfl ?_
      refine v_iald G 0 _ (decAt dd_RC_follows 3 rfl) (by decide) rfl (by first | with_reducible rfl | with_reducible exact nI_1 _ | with_reducible exact nI_add _ _ | assumption) (by omega) ?_
      refine v_ri (y := nI 6) hN1 ?_
      refine v_istore_3 G (decAt dd_RC_follows 4 rfl) (by decide) rfl ?_
      refine v_iload_n G (decAt dd_RC_follows 5 rfl) rfl ?_
      refine v_bipush G 16 (decAt dd_RC_follows 6 rfl) (by decide) ?_
      refine v_icmp_eq G 24 (decAt dd_RC_follows 7 rfl) (by decide) (fun c10 => absurd c10 (by decide)) (fun _ => ?_)
      refine v_iload_n G (decAt dd_RC_follows 8 rfl) rfl ?_
      refine v_bipush G 17 (decAt dd_RC_follows 9 rfl) (by decide) ?_
      refine v_icmp_eq G 24 (decAt dd_RC_follows 10 rfl) (by decide) (fun c16 => absurd c16 (by decide)) (fun _ => ?_)
      refine v_iload_n G (decAt dd_RC_follows 11 rfl) rfl ?_
      refine v_iconst G 1 (decAt dd_RC_follows 12 rfl) (by decide) ?_
      refine v_icmp_le G 26 (decAt dd_RC_follows 13 rfl) (by decide) (fun c21 => absurd c21 (by decide)) (fun _ => ?_)
      refine v_iconst G (-1) (decAt dd_RC_follows 14 rfl) (by decide) ?_
      exact v_iret G (decAt dd_RC_follows 15 rfl) rfl ⟨some_i (show _ = oI (fol cd k 2) by unfold fol nx0 nx1; rw [hop, hi0]; dsimp only; simp [oI, nI_1]; try rfl), rfl, rfl, rfl, rfl, rfl⟩
  · rcases (show q = 0 ∨ q = 1 ∨ q = 2 by omega) with rfl | rfl | rfl
    · skip
      refine v_aload_n G (decAt dd_RC_follows 0 rfl) rfl ?_
      refine v_geta G (decAt dd_RC_follows 1 rfl) f_RC_13 ?_
      refine v_iload_n G (decAt dd_RC_follows 2 rfl) rfl ?_
      refine v_iald G 0 _ (decAt dd_RC_follows 3 rfl) (by decide) rfl (by first | with_reducible rfl | with_reducible exact nI_1 _ | with_reducible exact nI_add _ _ | assumption) (by omega) ?_
      refine v_ri (y := nI 7) hN1 ?_
      refine v_istore_3 G (decAt dd_RC_follows 4 rfl) (by decide) rfl ?_
      refine v_iload_n G (decAt dd_RC_follows 5 rfl) rfl ?_
      refine v_bipush G 16 (decAt dd_RC_follows 6 rfl) (by decide) ?_
      refine v_icmp_eq G 24 (decAt dd_RC_follows 7 rfl) (by decide) (fun c10 => absurd c10 (by decide)) (fun _ => ?_)
      refine v_iload_n G (decAt dd_RC_follows 8 rfl) rfl ?_
      refine v_bipush G 17 (decAt dd_RC_follows 9 rfl) (by decide) ?_
      refine v_icmp_eq G 24 (decAt dd_RC_follows 10 rfl) (by decide) (fun c16 => absurd c16 (by decide)) (fun _ => ?_)
      refine v_iload_n G (decAt dd_RC_follows 11 rfl) rfl ?_
      refine v_iconst G 1 (decAt dd_RC_follows 12 rfl) (by decide) ?_
      refine v_icmp_le G 26 (decAt dd_RC_follows 13 rfl) (by decide) (fun _ => ?_) (fun c21 => absurd c21 (by decide))
      refine v_iload_n G (decAt dd_RC_follows 16 rfl) rfl ?_
      refine v_bipush G 18 (decAt dd_RC_follows 17 rfl) (by decide) ?_
      refine v_icmp_ne G 56 (decAt dd_RC_follows 18 rfl) (by decide) (fun _ => ?_) (fun c29 => absurd c29 (by decide))
      refine v_iload_n G (decAt dd_RC_follows 35 rfl) rfl ?_
      refine v_bipush G 10 (decAt dd_RC_follows 36 rfl) (by decide) ?_
      refine v_icmp_ne G 82 (decAt dd_RC_follows 37 rfl) (by decide) (fun _ => ?_) (fun c59 => absurd c59 (by decide))
      refine v_iload_n G (decAt dd_RC_follows 50 rfl) rfl ?_
      refine v_if_ne G 90 (decAt dd_RC_follows 51 rfl) (by decide) (fun c83 => absurd c83 (by decide)) (fun _ => ?_)
      refine v_iload_n G (decAt dd_RC_follows 52 rfl) rfl ?_
      refine v_iconst G 1 (decAt dd_RC_follows 53 rfl) (by decide) ?_
      refine v_iadd G (decAt dd_RC_follows 54 rfl) ?_
      exact v_iret G (decAt dd_RC_follows 55 rfl) rfl ⟨some_i (show _ = oI (fol cd k 0) by unfold fol nx0 nx1; rw [hop, hi0]; dsimp only; simp [oI, nI_1]; try rfl), rfl, rfl, rfl, rfl, rfl⟩
    · skip
      refine v_aload_n G (decAt dd_RC_follows 0 rfl) rfl ?_
      refine v_geta G (decAt dd_RC_follows 1 rfl) f_RC_13 ?_
      refine v_iload_n G (decAt dd_RC_follows 2 rfl) rfl ?_
      refine v_iald G 0 _ (decAt dd_RC_follows 3 rfl) (by decide) rfl (by first | with_reducible rfl | with_reducible exact nI_1 _ | with_reducible exact nI_add _ _ | assumption) (by omega) ?_
      refine v_ri (y := nI 7) hN1 ?_
      refine v_istore_3 G (decAt dd_RC_follows 4 rfl) (by decide) rfl ?_
      refine v_iload_n G (decAt dd_RC_follows 5 rfl) rfl ?_
      refine v_bipush G 16 (decAt dd_RC_follows 6 rfl) (by decide) ?_
      refine v_icmp_eq G 24 (decAt dd_RC_follows 7 rfl) (by decide) (fun c10 => absurd c10 (by decide)) (fun _ => ?_)
      refine v_iload_n G (decAt dd_RC_follows 8 rfl) rfl ?_
      refine v_bipush G 17 (decAt dd_RC_follows 9 rfl) (by decide) ?_
      refine v_icmp_eq G 24 (decAt dd_RC_follows 10 rfl) (by decide) (fun c16 => absurd c16 (by decide)) (fun _ => ?_)
      refine v_iload_n G (decAt dd_RC_follows 11 rfl) rfl ?_
      refine v_iconst G 1 (decAt dd_RC_follows 12 rfl) (by decide) ?_
      refine v_icmp_le G 26 (decAt dd_RC_follows 13 rfl) (by decide) (fun _ => ?_) (fun c21 => absurd c21 (by decide))
      refine v_iload_n G (decAt dd_RC_follows 16 rfl) rfl ?_
      refine v_bipush G 18 (decAt dd_RC_follows 17 rfl) (by decide) ?_
      refine v_icmp_ne G 56 (decAt dd_RC_follows 18 rfl) (by decide) (fun _ => ?_) (fun c29 => absurd c29 (by decide))
      refine v_iload_n G (decAt dd_RC_follows 35 rfl) rfl ?_
      refine v_bipush G 10 (decAt dd_RC_follows 36 rfl) (by decide) ?_
      refine v_icmp_ne G 82 (decAt dd_RC_follows 37 rfl) (by decide) (fun _ => ?_) (fun c59 => absurd c59 (by decide))
      refine v_iload_n G (decAt dd_RC_follows 50 rfl) rfl ?_
      refine v_if_ne G 90 (decAt dd_RC_follows 51 rfl) (by decide) (fun _ => ?_) (fun c83 => absurd c83 (by decide))
      refine v_iload_n G (decAt dd_RC_follows 56 rfl) rfl ?_
      refine v_bipush G 11 (decAt dd_RC_follows 57 rfl) (by decide) ?_
      refine v_icmp_eq G 102 (decAt dd_RC_follows 58 rfl) (by decide) (fun c93 => absurd c93 (by decide)) (fun _ => ?_)
      refine v_iload_n G (decAt dd_RC_follows 59 rfl) rfl ?_
      refine v_bipush G 12 (decAt dd_RC_follows 60 rfl) (by decide) ?_
      refine v_icmp_ne G 116 (decAt dd_RC_follows 61 rfl) (by decide) (fun _ => ?_) (fun c99 => absurd c99 (by decide))
      refine v_iconst G (-1) (decAt dd_RC_follows 70 rfl) (by decide) ?_
      exact v_iret G (decAt dd_RC_follows 71 rfl) rfl ⟨some_i (show _ = oI (fol cd k 1) by unfold fol nx0 nx1; rw [hop, hi0]; dsimp only; simp [oI, nI_1]; try rfl), rfl, rfl, rfl, rfl, rfl⟩
    · skip
      refine v_aload_n G (decAt dd_RC_follows 0 rfl) rfl ?_
      refine v_geta G (decAt dd_RC_follows 1 rfl) f_RC_13 ?_
      refine v_iload_n G (decAt dd_RC_follows 2 rfl) rfl ?_
      refine v_iald G 0 _ (decAt dd_RC_follows 3 rfl) (by decide) rfl (by first | with_reducible rfl | with_reducible exact nI_1 _ | with_reducible exact nI_add _ _ | assumption) (by omega) ?_
      refine v_ri (y := nI 7) hN1 ?_
      refine v_istore_3 G (decAt dd_RC_follows 4 rfl) (by decide) rfl ?_
      refine v_iload_n G (decAt dd_RC_follows 5 rfl) rfl ?_
      refine v_bipush G 16 (decAt dd_RC_follows 6 rfl) (by decide) ?_
      refine v_icmp_eq G 24 (decAt dd_RC_follows 7 rfl) (by decide) (fun c10 => absurd c10 (by decide)) (fun _ => ?_)
      refine v_iload_n G (decAt dd_RC_follows 8 rfl) rfl ?_
      refine v_bipush G 17 (decAt dd_RC_follows 9 rfl) (by decide) ?_
      refine v_icmp_eq G 24 (decAt dd_RC_follows 10 rfl) (by decide) (fun c16 => absurd c16 (by decide)) (fun _ => ?_)
      refine v_iload_n G (decAt dd_RC_follows 11 rfl) rfl ?_
      refine v_iconst G 1 (decAt dd_RC_follows 12 rfl) (by decide) ?_
      refine v_icmp_le G 26 (decAt dd_RC_follows 13 rfl) (by decide) (fun c21 => absurd c21 (by decide)) (fun _ => ?_)
      refine v_iconst G (-1) (decAt dd_RC_follows 14 rfl) (by decide) ?_
      exact v_iret G (decAt dd_RC_follows 15 rfl) rfl ⟨some_i (show _ = oI (fol cd k 2) by unfold fol nx0 nx1; rw [hop, hi0]; dsimp only; simp [oI, nI_1]; try rfl), rfl, rfl, rfl, rfl, rfl⟩
  · rcases (show q = 0 ∨ q = 1 ∨ q = 2 by omega) with rfl | rfl | rfl
    · skip
      refine v_aload_n G (decAt dd_RC_follows 0 rfl) rfl ?_
      refine v_geta G (decAt dd_RC_follows 1 rfl) f_RC_13 ?_
      refine v_iload_n G (decAt dd_RC_follows 2 rfl) rfl ?_
      refine v_iald G 0 _ (decAt dd_RC_follows 3 rfl) (by decide) rfl (by first | with_reducible rfl | with_reducible exact nI_1 _ | with_reducible exact nI_add _ _ | assumption) (by omega) ?_
      refine v_ri (y := nI 8) hN1 ?_
      refine v_istore_3 G (decAt dd_RC_follows 4 rfl) (by decide) rfl ?_
      refine v_iload_n G (decAt dd_RC_follows 5 rfl) rfl ?_
      refine v_bipush G 16 (decAt dd_RC_follows 6 rfl) (by decide) ?_
      refine v_icmp_eq G 24 (decAt dd_RC_follows 7 rfl) (by decide) (fun c10 => absurd c10 (by decide)) (fun _ => ?_)
      refine v_iload_n G (decAt dd_RC_follows 8 rfl) rfl ?_
      refine v_bipush G 17 (decAt dd_RC_follows 9 rfl) (by decide) ?_
      refine v_icmp_eq G 24 (decAt dd_RC_follows 10 rfl) (by decide) (fun c16 => absurd c16 (by decide)) (fun _ => ?_)
      refine v_iload_n G (decAt dd_RC_follows 11 rfl) rfl ?_
      refine v_iconst G 1 (decAt dd_RC_follows 12 rfl) (by decide) ?_
      refine v_icmp_le G 26 (decAt dd_RC_follows 13 rfl) (by decide) (fun _ => ?_) (fun c21 => absurd c21 (by decide))
      refine v_iload_n G (decAt dd_RC_follows 16 rfl) rfl ?_
      refine v_bipush G 18 (decAt dd_RC_follows 17 rfl) (by decide) ?_
      refine v_icmp_ne G 56 (decAt dd_RC_follows 18 rfl) (by decide) (fun _ => ?_) (fun c29 => absurd c29 (by decide))
      refine v_iload_n G (decAt dd_RC_follows 35 rfl) rfl ?_
      refine v_bipush G 10 (decAt dd_RC_follows 36 rfl) (by decide) ?_
      refine v_icmp_ne G 82 (decAt dd_RC_follows 37 rfl) (by decide) (fun _ => ?_) (fun c59 => absurd c59 (by decide))
      refine v_iload_n G (decAt dd_RC_follows 50 rfl) rfl ?_
      refine v_if_ne G 90 (decAt dd_RC_follows 51 rfl) (by decide) (fun c83 => absurd c83 (by decide)) (fun _ => ?_)
      refine v_iload_n G (decAt dd_RC_follows 52 rfl) rfl ?_
      refine v_iconst G 1 (decAt dd_RC_follows 53 rfl) (by decide) ?_
      refine v_iadd G (decAt dd_RC_follows 54 rfl) ?_
      exact v_iret G (decAt dd_RC_follows 55 rfl) rfl ⟨some_i (show _ = oI (fol cd k 0) by unfold fol nx0 nx1; rw [hop, hi0]; dsimp only; simp [oI, nI_1]; try rfl), rfl, rfl, rfl, rfl, rfl⟩
    · skip
      refine v_aload_n G (decAt dd_RC_follows 0 rfl) rfl ?_
      refine v_geta G (decAt dd_RC_follows 1 rfl) f_RC_13 ?_
      refine v_iload_n G (decAt dd_RC_follows 2 rfl) rfl ?_
      refine v_iald G 0 _ (decAt dd_RC_follows 3 rfl) (by decide) rfl (by first | with_reducible rfl | with_reducible exact nI_1 _ | with_reducible exact nI_add _ _ | assumption) (by omega) ?_
      refine v_ri (y := nI 8) hN1 ?_
      refine v_istore_3 G (decAt dd_RC_follows 4 rfl) (by decide) rfl ?_
      refine v_iload_n G (decAt dd_RC_follows 5 rfl) rfl ?_
      refine v_bipush G 16 (decAt dd_RC_follows 6 rfl) (by decide) ?_
      refine v_icmp_eq G 24 (decAt dd_RC_follows 7 rfl) (by decide) (fun c10 => absurd c10 (by decide)) (fun _ => ?_)
      refine v_iload_n G (decAt dd_RC_follows 8 rfl) rfl ?_
      refine v_bipush G 17 (decAt dd_RC_follows 9 rfl) (by decide) ?_
      refine v_icmp_eq G 24 (decAt dd_RC_follows 10 rfl) (by decide) (fun c16 => absurd c16 (by decide)) (fun _ => ?_)
      refine v_iload_n G (decAt dd_RC_follows 11 rfl) rfl ?_
      refine v_iconst G 1 (decAt dd_RC_follows 12 rfl) (by decide) ?_
      refine v_icmp_le G 26 (decAt dd_RC_follows 13 rfl) (by decide) (fun _ => ?_) (fun c21 => absurd c21 (by decide))
      refine v_iload_n G (decAt dd_RC_follows 16 rfl) rfl ?_
      refine v_bipush G 18 (decAt dd_RC_follows 17 rfl) (by decide) ?_
      refine v_icmp_ne G 56 (decAt dd_RC_follows 18 rfl) (by decide) (fun _ => ?_) (fun c29 => absurd c29 (by decide))
      refine v_iload_n G (decAt dd_RC_follows 35 rfl) rfl ?_
      refine v_bipush G 10 (decAt dd_RC_follows 36 rfl) (by decide) ?_
      refine v_icmp_ne G 82 (decAt dd_RC_follows 37 rfl) (by decide) (fun _ => ?_) (fun c59 => absurd c59 (by decide))
      refine v_iload_n G (decAt dd_RC_follows 50 rfl) rfl ?_
      refine v_if_ne G 90 (decAt dd_RC_follows 51 rfl) (by decide) (fun _ => ?_) (fun c83 => absurd c83 (by decide))
      refine v_iload_n G (decAt dd_RC_follows 56 rfl) rfl ?_
      refine v_bipush G 11 (decAt dd_RC_follows 57 rfl) (by decide) ?_
      refine v_icmp_eq G 102 (decAt dd_RC_follows 58 rfl) (by decide) (fun c93 => absurd c93 (by decide)) (fun _ => ?_)
      refine v_iload_n G (decAt dd_RC_follows 59 rfl) rfl ?_
      refine v_bipush G 12 (decAt dd_RC_follows 60 rfl) (by decide) ?_
      refine v_icmp_ne G 116 (decAt dd_RC_follows 61 rfl) (by decide) (fun _ => ?_) (fun c99 => absurd c99 (by decide))
      refine v_iconst G (-1) (decAt dd_RC_follows 70 rfl) (by decide) ?_
      exact v_iret G (decAt dd_RC_follows 71 rfl) rfl ⟨some_i (show _ = oI (fol cd k 1) by unfold fol nx0 nx1; rw [hop, hi0]; dsimp only; simp [oI, nI_1]; try rfl), rfl, rfl, rfl, rfl, rfl⟩
    · skip
      refine v_aload_n G (decAt dd_RC_follows 0 rfl) rfl ?_
      refine v_geta G (decAt dd_RC_follows 1 rfl) f_RC_13 ?_
      refine v_iload_n G (decAt dd_RC_follows 2 rfl) rfl ?_
      refine v_iald G 0 _ (decAt dd_RC_follows 3 rfl) (by decide) rfl (by first | with_reducible rfl | with_reducible exact nI_1 _ | with_reducible exact nI_add _ _ | assumption) (by omega) ?_
      refine v_ri (y := nI 8) hN1 ?_
      refine v_istore_3 G (decAt dd_RC_follows 4 rfl) (by decide) rfl ?_
      refine v_iload_n G (decAt dd_RC_follows 5 rfl) rfl ?_
      refine v_bipush G 16 (decAt dd_RC_follows 6 rfl) (by decide) ?_
      refine v_icmp_eq G 24 (decAt dd_RC_follows 7 rfl) (by decide) (fun c10 => absurd c10 (by decide)) (fun _ => ?_)
      refine v_iload_n G (decAt dd_RC_follows 8 rfl) rfl ?_
      refine v_bipush G 17 (decAt dd_RC_follows 9 rfl) (by decide) ?_
      refine v_icmp_eq G 24 (decAt dd_RC_follows 10 rfl) (by decide) (fun c16 => absurd c16 (by decide)) (fun _ => ?_)
      refine v_iload_n G (decAt dd_RC_follows 11 rfl) rfl ?_
      refine v_iconst G 1 (decAt dd_RC_follows 12 rfl) (by decide) ?_
      refine v_icmp_le G 26 (decAt dd_RC_follows 13 rfl) (by decide) (fun c21 => absurd c21 (by decide)) (fun _ => ?_)
      refine v_iconst G (-1) (decAt dd_RC_follows 14 rfl) (by decide) ?_
      exact v_iret G (decAt dd_RC_follows 15 rfl) rfl ⟨some_i (show _ = oI (fol cd k 2) by unfold fol nx0 nx1; rw [hop, hi0]; dsimp only; simp [oI, nI_1]; try rfl), rfl, rfl, rfl, rfl, rfl⟩
  · rcases (show q = 0 ∨ q = 1 ∨ q = 2 by omega) with rfl | rfl | rfl
    · skip
      refine v_aload_n G (decAt dd_RC_follows 0 rfl) rfl ?_
      refine v_geta G (decAt dd_RC_follows 1 rfl) f_RC_13 ?_
      refine v_iload_n G (decAt dd_RC_follows 2 rfl) rfl ?_
      refine v_iald G 0 _ (decAt dd_RC_follows 3 rfl) (by decide) rfl (by first | with_reducible rfl | with_reducible exact nI_1 _ | with_reducible exact nI_add _ _ | assumption) (by omega) ?_
      refine v_ri (y := nI 9) hN1 ?_
      refine v_istore_3 G (decAt dd_RC_follows 4 rfl) (by decide) rfl ?_
      refine v_iload_n G (decAt dd_RC_follows 5 rfl) rfl ?_
      refine v_bipush G 16 (decAt dd_RC_follows 6 rfl) (by decide) ?_
      refine v_icmp_eq G 24 (decAt dd_RC_follows 7 rfl) (by decide) (fun c10 => absurd c10 (by decide)) (fun _ => ?_)
      refine v_iload_n G (decAt dd_RC_follows 8 rfl) rfl ?_
      refine v_bipush G 17 (decAt dd_RC_follows 9 rfl) (by decide) ?_
      refine v_icmp_eq G 24 (decAt dd_RC_follows 10 rfl) (by decide) (fun c16 => absurd c16 (by decide)) (fun _ => ?_)
      refine v_iload_n G (decAt dd_RC_follows 11 rfl) rfl ?_
      refine v_iconst G 1 (decAt dd_RC_follows 12 rfl) (by decide) ?_
      refine v_icmp_le G 26 (decAt dd_RC_follows 13 rfl) (by decide) (fun _ => ?_) (fun c21 => absurd c21 (by decide))
      refine v_iload_n G (decAt dd_RC_follows 16 rfl) rfl ?_
      refine v_bipush G 18 (decAt dd_RC_follows 17 rfl) (by decide) ?_
      refine v_icmp_ne G 56 (decAt dd_RC_follows 18 rfl) (by decide) (fun _ => ?_) (fun c29 => absurd c29 (by decide))
      refine v_iload_n G (decAt dd_RC_follows 35 rfl) rfl ?_
      refine v_bipush G 10 (decAt dd_RC_follows 36 rfl) (by decide) ?_
      refine v_icmp_ne G 82 (decAt dd_RC_follows 37 rfl) (by decide) (fun _ => ?_) (fun c59 => absurd c59 (by decide))
      refine v_iload_n G (decAt dd_RC_follows 50 rfl) rfl ?_
      refine v_if_ne G 90 (decAt dd_RC_follows 51 rfl) (by decide) (fun c83 => absurd c83 (by decide)) (fun _ => ?_)
      refine v_iload_n G (decAt dd_RC_follows 52 rfl) rfl ?_
      refine v_iconst G 1 (decAt dd_RC_follows 53 rfl) (by decide) ?_
      refine v_iadd G (decAt dd_RC_follows 54 rfl) ?_
      exact v_iret G (decAt dd_RC_follows 55 rfl) rfl ⟨some_i (show _ = oI (fol cd k 0) by unfold fol nx0 nx1; rw [hop, hi0]; dsimp only; simp [oI, nI_1]; try rfl), rfl, rfl, rfl, rfl, rfl⟩
    · skip
      refine v_aload_n G (decAt dd_RC_follows 0 rfl) rfl ?_
      refine v_geta G (decAt dd_RC_follows 1 rfl) f_RC_13 ?_
      refine v_iload_n G (decAt dd_RC_follows 2 rfl) rfl ?_
      refine v_iald G 0 _ (decAt dd_RC_follows 3 rfl) (by decide) rfl (by first | with_reducible rfl | with_reducible exact nI_1 _ | with_reducible exact nI_add _ _ | assumption) (by omega) ?_
      refine v_ri (y := nI 9) hN1 ?_
      refine v_istore_3 G (decAt dd_RC_follows 4 rfl) (by decide) rfl ?_
      refine v_iload_n G (decAt dd_RC_follows 5 rfl) rfl ?_
      refine v_bipush G 16 (decAt dd_RC_follows 6 rfl) (by decide) ?_
      refine v_icmp_eq G 24 (decAt dd_RC_follows 7 rfl) (by decide) (fun c10 => absurd c10 (by decide)) (fun _ => ?_)
      refine v_iload_n G (decAt dd_RC_follows 8 rfl) rfl ?_
      refine v_bipush G 17 (decAt dd_RC_follows 9 rfl) (by decide) ?_
      refine v_icmp_eq G 24 (decAt dd_RC_follows 10 rfl) (by decide) (fun c16 => absurd c16 (by decide)) (fun _ => ?_)
      refine v_iload_n G (decAt dd_RC_follows 11 rfl) rfl ?_
      refine v_iconst G 1 (decAt dd_RC_follows 12 rfl) (by decide) ?_
      refine v_icmp_le G 26 (decAt dd_RC_follows 13 rfl) (by decide) (fun _ => ?_) (fun c21 => absurd c21 (by decide))
      refine v_iload_n G (decAt dd_RC_follows 16 rfl) rfl ?_
      refine v_bipush G 18 (decAt dd_RC_follows 17 rfl) (by decide) ?_
      refine v_icmp_ne G 56 (decAt dd_RC_follows 18 rfl) (by decide) (fun _ => ?_) (fun c29 => absurd c29 (by decide))
      refine v_iload_n G (decAt dd_RC_follows 35 rfl) rfl ?_
      refine v_bipush G 10 (decAt dd_RC_follows 36 rfl) (by decide) ?_
      refine v_icmp_ne G 82 (decAt dd_RC_follows 37 rfl) (by decide) (fun _ => ?_) (fun c59 => absurd c59 (by decide))
      refine v_iload_n G (decAt dd_RC_follows 50 rfl) rfl ?_
      refine v_if_ne G 90 (decAt dd_RC_follows 51 rfl) (by decide) (fun _ => ?_) (fun c83 => absurd c83 (by decide))
      refine v_iload_n G (decAt dd_RC_follows 56 rfl) rfl ?_
      refine v_bipush G 11 (decAt dd_RC_follows 57 rfl) (by decide) ?_
      refine v_icmp_eq G 102 (decAt dd_RC_follows 58 rfl) (by decide) (fun c93 => absurd c93 (by decide)) (fun _ => ?_)
      refine v_iload_n G (decAt dd_RC_follows 59 rfl) rfl ?_
      refine v_bipush G 12 (decAt dd_RC_follows 60 rfl) (by decide) ?_
      refine v_icmp_ne G 116 (decAt dd_RC_follows 61 rfl) (by decide) (fun _ => ?_) (fun c99 => absurd c99 (by decide))
      refine v_iconst G (-1) (decAt dd_RC_follows 70 rfl) (by decide) ?_
      exact v_iret G (decAt dd_RC_follows 71 rfl) rfl ⟨some_i (show _ = oI (fol cd k 1) by unfold fol nx0 nx1; rw [hop, hi0]; dsimp only; simp [oI, nI_1]; try rfl), rfl, rfl, rfl, rfl, rfl⟩
    · skip
      refine v_aload_n G (decAt dd_RC_follows 0 rfl) rfl ?_
      refine v_geta G (decAt dd_RC_follows 1 rfl) f_RC_13 ?_
      refine v_iload_n G (decAt dd_RC_follows 2 rfl) rfl ?_
      refine v_iald G 0 _ (decAt dd_RC_follows 3 rfl) (by decide) rfl (by first | with_reducible rfl | with_reducible exact nI_1 _ | with_reducible exact nI_add _ _ | assumption) (by omega) ?_
      refine v_ri (y := nI 9) hN1 ?_
      refine v_istore_3 G (decAt dd_RC_follows 4 rfl) (by decide) rfl ?_
      refine v_iload_n G (decAt dd_RC_follows 5 rfl) rfl ?_
      refine v_bipush G 16 (decAt dd_RC_follows 6 rfl) (by decide) ?_
      refine v_icmp_eq G 24 (decAt dd_RC_follows 7 rfl) (by decide) (fun c10 => absurd c10 (by decide)) (fun _ => ?_)
      refine v_iload_n G (decAt dd_RC_follows 8 rfl) rfl ?_
      refine v_bipush G 17 (decAt dd_RC_follows 9 rfl) (by decide) ?_
      refine v_icmp_eq G 24 (decAt dd_RC_follows 10 rfl) (by decide) (fun c16 => absurd c16 (by decide)) (fun _ => ?_)
      refine v_iload_n G (decAt dd_RC_follows 11 rfl) rfl ?_
      refine v_iconst G 1 (decAt dd_RC_follows 12 rfl) (by decide) ?_
      refine v_icmp_le G 26 (decAt dd_RC_follows 13 rfl) (by decide) (fun c21 => absurd c21 (by decide)) (fun _ => ?_)
      refine v_iconst G (-1) (decAt dd_RC_follows 14 rfl) (by decide) ?_
      exact v_iret G (decAt dd_RC_follows 15 rfl) rfl ⟨some_i (show _ = oI (fol cd k 2) by unfold fol nx0 nx1; rw [hop, hi0]; dsimp only; simp [oI, nI_1]; try rfl), rfl, rfl, rfl, rfl, rfl⟩
  · rcases (show q = 0 ∨ q = 1 ∨ q = 2 by omega) with rfl | rfl | rfl
    · skip
      obtain ⟨tl, htl⟩ := (hL k 10 a hi0).2.2.2.1 (by omega)
      obtain ⟨lb, hlb1, hlb2, hlb3⟩ := hlab (hL k 10 a hi0).2.1 htl
      refine v_aload_n G (decAt dd_RC_follows 0 rfl) rfl ?_
      refine v_geta G (decAt dd_RC_follows 1 rfl) f_RC_13 ?_
      refine v_iload_n G (decAt dd_RC_follows 2 rfl) rfl ?_
      refine v_iald G 0 _ (decAt dd_RC_follows 3 rfl) (by decide) rfl (by first | with_reducible rfl | with_reducible exact nI_1 _ | with_reducible exact nI_add _ _ | assumption) (by omega) ?_
      refine v_ri (y := nI 10) hN1 ?_
      refine v_istore_3 G (decAt dd_RC_follows 4 rfl) (by decide) rfl ?_
      refine v_iload_n G (decAt dd_RC_follows 5 rfl) rfl ?_
      refine v_bipush G 16 (decAt dd_RC_follows 6 rfl) (by decide) ?_
      refine v_icmp_eq G 24 (decAt dd_RC_follows 7 rfl) (by decide) (fun c10 => absurd c10 (by decide)) (fun _ => ?_)
      refine v_iload_n G (decAt dd_RC_follows 8 rfl) rfl ?_
      refine v_bipush G 17 (decAt dd_RC_follows 9 rfl) (by decide) ?_
      refine v_icmp_eq G 24 (decAt dd_RC_follows 10 rfl) (by decide) (fun c16 => absurd c16 (by decide)) (fun _ => ?_)
      refine v_iload_n G (decAt dd_RC_follows 11 rfl) rfl ?_
      refine v_iconst G 1 (decAt dd_RC_follows 12 rfl) (by decide) ?_
      refine v_icmp_le G 26 (decAt dd_RC_follows 13 rfl) (by decide) (fun _ => ?_) (fun c21 => absurd c21 (by decide))
      refine v_iload_n G (decAt dd_RC_follows 16 rfl) rfl ?_
      refine v_bipush G 18 (decAt dd_RC_follows 17 rfl) (by decide) ?_
      refine v_icmp_ne G 56 (decAt dd_RC_follows 18 rfl) (by decide) (fun _ => ?_) (fun c29 => absurd c29 (by decide))
      refine v_iload_n G (decAt dd_RC_follows 35 rfl) rfl ?_
      refine v_bipush G 10 (decAt dd_RC_follows 36 rfl) (by decide) ?_
      refine v_icmp_ne G 82 (decAt dd_RC_follows 37 rfl) (by decide) (fun c59 => absurd c59 (by decide)) (fun _ => ?_)
      refine v_iload_n G (decAt dd_RC_follows 38 rfl) rfl ?_
      refine v_if_ne G 80 (decAt dd_RC_follows 39 rfl) (by decide) (fun c63 => absurd c63 (by decide)) (fun _ => ?_)
      refine v_aload_n G (decAt dd_RC_follows 40 rfl) rfl ?_
      refine v_geta G (decAt dd_RC_follows 41 rfl) f_RC_48 ?_
      refine v_aload_n G (decAt dd_RC_follows 42 rfl) rfl ?_
      refine v_geta G (decAt dd_RC_follows 43 rfl) f_RC_17 ?_
      refine v_iload_n G (decAt dd_RC_follows 44 rfl) rfl ?_
      refine v_iald G 1 _ (decAt dd_RC_follows 45 rfl) (by decide) rfl (by first | with_reducible rfl | with_reducible exact nI_1 _ | with_reducible exact nI_add _ _ | assumption) (by omega) ?_
      refine v_ri (y := a) hN2 ?_
      refine v_iald G 2 lb (decAt dd_RC_follows 46 rfl) (by decide) rfl hlb1 (by omega) ?_
      refine v_ri (y := nI tl) hlb3 ?_
      refine v_goto G 81 (decAt dd_RC_follows 47 rfl) (by decide) ?_
      exact v_iret G (decAt dd_RC_follows 49 rfl) rfl ⟨some_i (show nI tl = oI (fol cd k 0) by unfold fol nx1; rw [hop, hi0]; dsimp only; simp [htl, oI]), rfl, rfl, rfl, rfl, rfl⟩
    · skip
      refine v_aload_n G (decAt dd_RC_follows 0 rfl) rfl ?_
      refine v_geta G (decAt dd_RC_follows 1 rfl) f_RC_13 ?_
      refine v_iload_n G (decAt dd_RC_follows 2 rfl) rfl ?_
      refine v_iald G 0 _ (decAt dd_RC_follows 3 rfl) (by decide) rfl (by first | with_reducible rfl | with_reducible exact nI_1 _ | with_reducible exact nI_add _ _ | assumption) (by omega) ?_
      refine v_ri (y := nI 10) hN1 ?_
      refine v_istore_3 G (decAt dd_RC_follows 4 rfl) (by decide) rfl ?_
      refine v_iload_n G (decAt dd_RC_follows 5 rfl) rfl ?_
      refine v_bipush G 16 (decAt dd_RC_follows 6 rfl) (by decide) ?_
      refine v_icmp_eq G 24 (decAt dd_RC_follows 7 rfl) (by decide) (fun c10 => absurd c10 (by decide)) (fun _ => ?_)
      refine v_iload_n G (decAt dd_RC_follows 8 rfl) rfl ?_
      refine v_bipush G 17 (decAt dd_RC_follows 9 rfl) (by decide) ?_
      refine v_icmp_eq G 24 (decAt dd_RC_follows 10 rfl) (by decide) (fun c16 => absurd c16 (by decide)) (fun _ => ?_)
      refine v_iload_n G (decAt dd_RC_follows 11 rfl) rfl ?_
      refine v_iconst G 1 (decAt dd_RC_follows 12 rfl) (by decide) ?_
      refine v_icmp_le G 26 (decAt dd_RC_follows 13 rfl) (by decide) (fun _ => ?_) (fun c21 => absurd c21 (by decide))
      refine v_iload_n G (decAt dd_RC_follows 16 rfl) rfl ?_
      refine v_bipush G 18 (decAt dd_RC_follows 17 rfl) (by decide) ?_
      refine v_icmp_ne G 56 (decAt dd_RC_follows 18 rfl) (by decide) (fun _ => ?_) (fun c29 => absurd c29 (by decide))
      refine v_iload_n G (decAt dd_RC_follows 35 rfl) rfl ?_
      refine v_bipush G 10 (decAt dd_RC_follows 36 rfl) (by decide) ?_
      refine v_icmp_ne G 82 (decAt dd_RC_follows 37 rfl) (by decide) (fun c59 => absurd c59 (by decide)) (fun _ => ?_)
      refine v_iload_n G (decAt dd_RC_follows 38 rfl) rfl ?_
      refine v_if_ne G 80 (decAt dd_RC_follows 39 rfl) (by decide) (fun _ => ?_) (fun c63 => absurd c63 (by decide))
      refine v_iconst G (-1) (decAt dd_RC_follows 48 rfl) (by decide) ?_
      exact v_iret G (decAt dd_RC_follows 49 rfl) rfl ⟨some_i (show _ = oI (fol cd k 1) by unfold fol nx0 nx1; rw [hop, hi0]; dsimp only; simp [oI, nI_1]; try rfl), rfl, rfl, rfl, rfl, rfl⟩
    · skip
      refine v_aload_n G (decAt dd_RC_follows 0 rfl) rfl ?_
      refine v_geta G (decAt dd_RC_follows 1 rfl) f_RC_13 ?_
      refine v_iload_n G (decAt dd_RC_follows 2 rfl) rfl ?_
      refine v_iald G 0 _ (decAt dd_RC_follows 3 rfl) (by decide) rfl (by first | with_reducible rfl | with_reducible exact nI_1 _ | with_reducible exact nI_add _ _ | assumption) (by omega) ?_
      refine v_ri (y := nI 10) hN1 ?_
      refine v_istore_3 G (decAt dd_RC_follows 4 rfl) (by decide) rfl ?_
      refine v_iload_n G (decAt dd_RC_follows 5 rfl) rfl ?_
      refine v_bipush G 16 (decAt dd_RC_follows 6 rfl) (by decide) ?_
      refine v_icmp_eq G 24 (decAt dd_RC_follows 7 rfl) (by decide) (fun c10 => absurd c10 (by decide)) (fun _ => ?_)
      refine v_iload_n G (decAt dd_RC_follows 8 rfl) rfl ?_
      refine v_bipush G 17 (decAt dd_RC_follows 9 rfl) (by decide) ?_
      refine v_icmp_eq G 24 (decAt dd_RC_follows 10 rfl) (by decide) (fun c16 => absurd c16 (by decide)) (fun _ => ?_)
      refine v_iload_n G (decAt dd_RC_follows 11 rfl) rfl ?_
      refine v_iconst G 1 (decAt dd_RC_follows 12 rfl) (by decide) ?_
      refine v_icmp_le G 26 (decAt dd_RC_follows 13 rfl) (by decide) (fun c21 => absurd c21 (by decide)) (fun _ => ?_)
      refine v_iconst G (-1) (decAt dd_RC_follows 14 rfl) (by decide) ?_
      exact v_iret G (decAt dd_RC_follows 15 rfl) rfl ⟨some_i (show _ = oI (fol cd k 2) by unfold fol nx0 nx1; rw [hop, hi0]; dsimp only; simp [oI, nI_1]; try rfl), rfl, rfl, rfl, rfl, rfl⟩
  · rcases (show q = 0 ∨ q = 1 ∨ q = 2 by omega) with rfl | rfl | rfl
    · skip
      refine v_aload_n G (decAt dd_RC_follows 0 rfl) rfl ?_
      refine v_geta G (decAt dd_RC_follows 1 rfl) f_RC_13 ?_
      refine v_iload_n G (decAt dd_RC_follows 2 rfl) rfl ?_
      refine v_iald G 0 _ (decAt dd_RC_follows 3 rfl) (by decide) rfl (by first | with_reducible rfl | with_reducible exact nI_1 _ | with_reducible exact nI_add _ _ | assumption) (by omega) ?_
      refine v_ri (y := nI 11) hN1 ?_
      refine v_istore_3 G (decAt dd_RC_follows 4 rfl) (by decide) rfl ?_
      refine v_iload_n G (decAt dd_RC_follows 5 rfl) rfl ?_
      refine v_bipush G 16 (decAt dd_RC_follows 6 rfl) (by decide) ?_
      refine v_icmp_eq G 24 (decAt dd_RC_follows 7 rfl) (by decide) (fun c10 => absurd c10 (by decide)) (fun _ => ?_)
      refine v_iload_n G (decAt dd_RC_follows 8 rfl) rfl ?_
      refine v_bipush G 17 (decAt dd_RC_follows 9 rfl) (by decide) ?_
      refine v_icmp_eq G 24 (decAt dd_RC_follows 10 rfl) (by decide) (fun c16 => absurd c16 (by decide)) (fun _ => ?_)
      refine v_iload_n G (decAt dd_RC_follows 11 rfl) rfl ?_
      refine v_iconst G 1 (decAt dd_RC_follows 12 rfl) (by decide) ?_
      refine v_icmp_le G 26 (decAt dd_RC_follows 13 rfl) (by decide) (fun _ => ?_) (fun c21 => absurd c21 (by decide))
      refine v_iload_n G (decAt dd_RC_follows 16 rfl) rfl ?_
      refine v_bipush G 18 (decAt dd_RC_follows 17 rfl) (by decide) ?_
      refine v_icmp_ne G 56 (decAt dd_RC_follows 18 rfl) (by decide) (fun _ => ?_) (fun c29 => absurd c29 (by decide))
      refine v_iload_n G (decAt dd_RC_follows 35 rfl) rfl ?_
      refine v_bipush G 10 (decAt dd_RC_follows 36 rfl) (by decide) ?_
      refine v_icmp_ne G 82 (decAt dd_RC_follows 37 rfl) (by decide) (fun _ => ?_) (fun c59 => absurd c59 (by decide))
      refine v_iload_n G (decAt dd_RC_follows 50 rfl) rfl ?_
      refine v_if_ne G 90 (decAt dd_RC_follows 51 rfl) (by decide) (fun c83 => absurd c83 (by decide)) (fun _ => ?_)
      refine v_iload_n G (decAt dd_RC_follows 52 rfl) rfl ?_
      refine v_iconst G 1 (decAt dd_RC_follows 53 rfl) (by decide) ?_
      refine v_iadd G (decAt dd_RC_follows 54 rfl) ?_
      exact v_iret G (decAt dd_RC_follows 55 rfl) rfl ⟨some_i (show _ = oI (fol cd k 0) by unfold fol nx0 nx1; rw [hop, hi0]; dsimp only; simp [oI, nI_1]; try rfl), rfl, rfl, rfl, rfl, rfl⟩
    · skip
      obtain ⟨tl, htl⟩ := (hL k 11 a hi0).2.2.2.1 (by omega)
      obtain ⟨lb, hlb1, hlb2, hlb3⟩ := hlab (hL k 11 a hi0).2.1 htl
      refine v_aload_n G (decAt dd_RC_follows 0 rfl) rfl ?_
      refine v_geta G (decAt dd_RC_follows 1 rfl) f_RC_13 ?_
      refine v_iload_n G (decAt dd_RC_follows 2 rfl) rfl ?_
      refine v_iald G 0 _ (decAt dd_RC_follows 3 rfl) (by decide) rfl (by first | with_reducible rfl | with_reducible exact nI_1 _ | with_reducible exact nI_add _ _ | assumption) (by omega) ?_
      refine v_ri (y := nI 11) hN1 ?_
      refine v_istore_3 G (decAt dd_RC_follows 4 rfl) (by decide) rfl ?_
      refine v_iload_n G (decAt dd_RC_follows 5 rfl) rfl ?_
      refine v_bipush G 16 (decAt dd_RC_follows 6 rfl) (by decide) ?_
      refine v_icmp_eq G 24 (decAt dd_RC_follows 7 rfl) (by decide) (fun c10 => absurd c10 (by decide)) (fun _ => ?_)
      refine v_iload_n G (decAt dd_RC_follows 8 rfl) rfl ?_
      refine v_bipush G 17 (decAt dd_RC_follows 9 rfl) (by decide) ?_
      refine v_icmp_eq G 24 (decAt dd_RC_follows 10 rfl) (by decide) (fun c16 => absurd c16 (by decide)) (fun _ => ?_)
      refine v_iload_n G (decAt dd_RC_follows 11 rfl) rfl ?_
      refine v_iconst G 1 (decAt dd_RC_follows 12 rfl) (by decide) ?_
      refine v_icmp_le G 26 (decAt dd_RC_follows 13 rfl) (by decide) (fun _ => ?_) (fun c21 => absurd c21 (by decide))
      refine v_iload_n G (decAt dd_RC_follows 16 rfl) rfl ?_
      refine v_bipush G 18 (decAt dd_RC_follows 17 rfl) (by decide) ?_
      refine v_icmp_ne G 56 (decAt dd_RC_follows 18 rfl) (by decide) (fun _ => ?_) (fun c29 => absurd c29 (by decide))
      refine v_iload_n G (decAt dd_RC_follows 35 rfl) rfl ?_
      refine v_bipush G 10 (decAt dd_RC_follows 36 rfl) (by decide) ?_
      refine v_icmp_ne G 82 (decAt dd_RC_follows 37 rfl) (by decide) (fun _ => ?_) (fun c59 => absurd c59 (by decide))
      refine v_iload_n G (decAt dd_RC_follows 50 rfl) rfl ?_
      refine v_if_ne G 90 (decAt dd_RC_follows 51 rfl) (by decide) (fun _ => ?_) (fun c83 => absurd c83 (by decide))
      refine v_iload_n G (decAt dd_RC_follows 56 rfl) rfl ?_
      refine v_bipush G 11 (decAt dd_RC_follows 57 rfl) (by decide) ?_
      refine v_icmp_eq G 102 (decAt dd_RC_follows 58 rfl) (by decide) (fun _ => ?_) (fun c93 => absurd c93 (by decide))
      refine v_aload_n G (decAt dd_RC_follows 62 rfl) rfl ?_
      refine v_geta G (decAt dd_RC_follows 63 rfl) f_RC_48 ?_
      refine v_aload_n G (decAt dd_RC_follows 64 rfl) rfl ?_
      refine v_geta G (decAt dd_RC_follows 65 rfl) f_RC_17 ?_
      refine v_iload_n G (decAt dd_RC_follows 66 rfl) rfl ?_
      refine v_iald G 1 _ (decAt dd_RC_follows 67 rfl) (by decide) rfl (by first | with_reducible rfl | with_reducible exact nI_1 _ | with_reducible exact nI_add _ _ | assumption) (by omega) ?_
      refine v_ri (y := a) hN2 ?_
      refine v_iald G 2 lb (decAt dd_RC_follows 68 rfl) (by decide) rfl hlb1 (by omega) ?_
      refine v_ri (y := nI tl) hlb3 ?_
      refine v_goto G 117 (decAt dd_RC_follows 69 rfl) (by decide) ?_
      exact v_iret G (decAt dd_RC_follows 71 rfl) rfl ⟨some_i (show nI tl = oI (fol cd k 1) by unfold fol nx1; rw [hop, hi0]; dsimp only; simp [htl, oI]), rfl, rfl, rfl, rfl, rfl⟩
    · skip
      refine v_aload_n G (decAt dd_RC_follows 0 rfl) rfl ?_
      refine v_geta G (decAt dd_RC_follows 1 rfl) f_RC_13 ?_
      refine v_iload_n G (decAt dd_RC_follows 2 rfl) rfl ?_
      refine v_iald G 0 _ (decAt dd_RC_follows 3 rfl) (by decide) rfl (by first | with_reducible rfl | with_reducible exact nI_1 _ | with_reducible exact nI_add _ _ | assumption) (by omega) ?_
      refine v_ri (y := nI 11) hN1 ?_
      refine v_istore_3 G (decAt dd_RC_follows 4 rfl) (by decide) rfl ?_
      refine v_iload_n G (decAt dd_RC_follows 5 rfl) rfl ?_
      refine v_bipush G 16 (decAt dd_RC_follows 6 rfl) (by decide) ?_
      refine v_icmp_eq G 24 (decAt dd_RC_follows 7 rfl) (by decide) (fun c10 => absurd c10 (by decide)) (fun _ => ?_)
      refine v_iload_n G (decAt dd_RC_follows 8 rfl) rfl ?_
      refine v_bipush G 17 (decAt dd_RC_follows 9 rfl) (by decide) ?_
      refine v_icmp_eq G 24 (decAt dd_RC_follows 10 rfl) (by decide) (fun c16 => absurd c16 (by decide)) (fun _ => ?_)
      refine v_iload_n G (decAt dd_RC_follows 11 rfl) rfl ?_
      refine v_iconst G 1 (decAt dd_RC_follows 12 rfl) (by decide) ?_
      refine v_icmp_le G 26 (decAt dd_RC_follows 13 rfl) (by decide) (fun c21 => absurd c21 (by decide)) (fun _ => ?_)
      refine v_iconst G (-1) (decAt dd_RC_follows 14 rfl) (by decide) ?_
      exact v_iret G (decAt dd_RC_follows 15 rfl) rfl ⟨some_i (show _ = oI (fol cd k 2) by unfold fol nx0 nx1; rw [hop, hi0]; dsimp only; simp [oI, nI_1]; try rfl), rfl, rfl, rfl, rfl, rfl⟩
  · rcases (show q = 0 ∨ q = 1 ∨ q = 2 by omega) with rfl | rfl | rfl
    · skip
      refine v_aload_n G (decAt dd_RC_follows 0 rfl) rfl ?_
      refine v_geta G (decAt dd_RC_follows 1 rfl) f_RC_13 ?_
      refine v_iload_n G (decAt dd_RC_follows 2 rfl) rfl ?_
      refine v_iald G 0 _ (decAt dd_RC_follows 3 rfl) (by decide) rfl (by first | with_reducible rfl | with_reducible exact nI_1 _ | with_reducible exact nI_add _ _ | assumption) (by omega) ?_
      refine v_ri (y := nI 12) hN1 ?_
      refine v_istore_3 G (decAt dd_RC_follows 4 rfl) (by decide) rfl ?_
      refine v_iload_n G (decAt dd_RC_follows 5 rfl) rfl ?_
      refine v_bipush G 16 (decAt dd_RC_follows 6 rfl) (by decide) ?_
      refine v_icmp_eq G 24 (decAt dd_RC_follows 7 rfl) (by decide) (fun c10 => absurd c10 (by decide)) (fun _ => ?_)
      refine v_iload_n G (decAt dd_RC_follows 8 rfl) rfl ?_
      refine v_bipush G 17 (decAt dd_RC_follows 9 rfl) (by decide) ?_
      refine v_icmp_eq G 24 (decAt dd_RC_follows 10 rfl) (by decide) (fun c16 => absurd c16 (by decide)) (fun _ => ?_)
      refine v_iload_n G (decAt dd_RC_follows 11 rfl) rfl ?_
      refine v_iconst G 1 (decAt dd_RC_follows 12 rfl) (by decide) ?_
      refine v_icmp_le G 26 (decAt dd_RC_follows 13 rfl) (by decide) (fun _ => ?_) (fun c21 => absurd c21 (by decide))
      refine v_iload_n G (decAt dd_RC_follows 16 rfl) rfl ?_
      refine v_bipush G 18 (decAt dd_RC_follows 17 rfl) (by decide) ?_
      refine v_icmp_ne G 56 (decAt dd_RC_follows 18 rfl) (by decide) (fun _ => ?_) (fun c29 => absurd c29 (by decide))
      refine v_iload_n G (decAt dd_RC_follows 35 rfl) rfl ?_
      refine v_bipush G 10 (decAt dd_RC_follows 36 rfl) (by decide) ?_
      refine v_icmp_ne G 82 (decAt dd_RC_follows 37 rfl) (by decide) (fun _ => ?_) (fun c59 => absurd c59 (by decide))
      refine v_iload_n G (decAt dd_RC_follows 50 rfl) rfl ?_
      refine v_if_ne G 90 (decAt dd_RC_follows 51 rfl) (by decide) (fun c83 => absurd c83 (by decide)) (fun _ => ?_)
      refine v_iload_n G (decAt dd_RC_follows 52 rfl) rfl ?_
      refine v_iconst G 1 (decAt dd_RC_follows 53 rfl) (by decide) ?_
      refine v_iadd G (decAt dd_RC_follows 54 rfl) ?_
      exact v_iret G (decAt dd_RC_follows 55 rfl) rfl ⟨some_i (show _ = oI (fol cd k 0) by unfold fol nx0 nx1; rw [hop, hi0]; dsimp only; simp [oI, nI_1]; try rfl), rfl, rfl, rfl, rfl, rfl⟩
    · skip
      obtain ⟨tl, htl⟩ := (hL k 12 a hi0).2.2.2.1 (by omega)
      obtain ⟨lb, hlb1, hlb2, hlb3⟩ := hlab (hL k 12 a hi0).2.1 htl
      refine v_aload_n G (decAt dd_RC_follows 0 rfl) rfl ?_
      refine v_geta G (decAt dd_RC_follows 1 rfl) f_RC_13 ?_
      refine v_iload_n G (decAt dd_RC_follows 2 rfl) rfl ?_
      refine v_iald G 0 _ (decAt dd_RC_follows 3 rfl) (by decide) rfl (by first | with_reducible rfl | with_reducible exact nI_1 _ | with_reducible exact nI_add _ _ | assumption) (by omega) ?_
      refine v_ri (y := nI 12) hN1 ?_
      refine v_istore_3 G (decAt dd_RC_follows 4 rfl) (by decide) rfl ?_
      refine v_iload_n G (decAt dd_RC_follows 5 rfl) rfl ?_
      refine v_bipush G 16 (decAt dd_RC_follows 6 rfl) (by decide) ?_
      refine v_icmp_eq G 24 (decAt dd_RC_follows 7 rfl) (by decide) (fun c10 => absurd c10 (by decide)) (fun _ => ?_)
      refine v_iload_n G (decAt dd_RC_follows 8 rfl) rfl ?_
      refine v_bipush G 17 (decAt dd_RC_follows 9 rfl) (by decide) ?_
      refine v_icmp_eq G 24 (decAt dd_RC_follows 10 rfl) (by decide) (fun c16 => absurd c16 (by decide)) (fun _ => ?_)
      refine v_iload_n G (decAt dd_RC_follows 11 rfl) rfl ?_
      refine v_iconst G 1 (decAt dd_RC_follows 12 rfl) (by decide) ?_
      refine v_icmp_le G 26 (decAt dd_RC_follows 13 rfl) (by decide) (fun _ => ?_) (fun c21 => absurd c21 (by decide))
      refine v_iload_n G (decAt dd_RC_follows 16 rfl) rfl ?_
      refine v_bipush G 18 (decAt dd_RC_follows 17 rfl) (by decide) ?_
      refine v_icmp_ne G 56 (decAt dd_RC_follows 18 rfl) (by decide) (fun _ => ?_) (fun c29 => absurd c29 (by decide))
      refine v_iload_n G (decAt dd_RC_follows 35 rfl) rfl ?_
      refine v_bipush G 10 (decAt dd_RC_follows 36 rfl) (by decide) ?_
      refine v_icmp_ne G 82 (decAt dd_RC_follows 37 rfl) (by decide) (fun _ => ?_) (fun c59 => absurd c59 (by decide))
      refine v_iload_n G (decAt dd_RC_follows 50 rfl) rfl ?_
      refine v_if_ne G 90 (decAt dd_RC_follows 51 rfl) (by decide) (fun _ => ?_) (fun c83 => absurd c83 (by decide))
      refine v_iload_n G (decAt dd_RC_follows 56 rfl) rfl ?_
      refine v_bipush G 11 (decAt dd_RC_follows 57 rfl) (by decide) ?_
      refine v_icmp_eq G 102 (decAt dd_RC_follows 58 rfl) (by decide) (fun c93 => absurd c93 (by decide)) (fun _ => ?_)
      refine v_iload_n G (decAt dd_RC_follows 59 rfl) rfl ?_
      refine v_bipush G 12 (decAt dd_RC_follows 60 rfl) (by decide) ?_
      refine v_icmp_ne G 116 (decAt dd_RC_follows 61 rfl) (by decide) (fun c99 => absurd c99 (by decide)) (fun _ => ?_)
      refine v_aload_n G (decAt dd_RC_follows 62 rfl) rfl ?_
      refine v_geta G (decAt dd_RC_follows 63 rfl) f_RC_48 ?_
      refine v_aload_n G (decAt dd_RC_follows 64 rfl) rfl ?_
      refine v_geta G (decAt dd_RC_follows 65 rfl) f_RC_17 ?_
      refine v_iload_n G (decAt dd_RC_follows 66 rfl) rfl ?_
      refine v_iald G 1 _ (decAt dd_RC_follows 67 rfl) (by decide) rfl (by first | with_reducible rfl | with_reducible exact nI_1 _ | with_reducible exact nI_add _ _ | assumption) (by omega) ?_
      refine v_ri (y := a) hN2 ?_
      refine v_iald G 2 lb (decAt dd_RC_follows 68 rfl) (by decide) rfl hlb1 (by omega) ?_
      refine v_ri (y := nI tl) hlb3 ?_
      refine v_goto G 117 (decAt dd_RC_follows 69 rfl) (by decide) ?_
      exact v_iret G (decAt dd_RC_follows 71 rfl) rfl ⟨some_i (show nI tl = oI (fol cd k 1) by unfold fol nx1; rw [hop, hi0]; dsimp only; simp [htl, oI]), rfl, rfl, rfl, rfl, rfl⟩
    · skip
      refine v_aload_n G (decAt dd_RC_follows 0 rfl) rfl ?_
      refine v_geta G (decAt dd_RC_follows 1 rfl) f_RC_13 ?_
      refine v_iload_n G (decAt dd_RC_follows 2 rfl) rfl ?_
      refine v_iald G 0 _ (decAt dd_RC_follows 3 rfl) (by decide) rfl (by first | with_reducible rfl | with_reducible exact nI_1 _ | with_reducible exact nI_add _ _ | assumption) (by omega) ?_
      refine v_ri (y := nI 12) hN1 ?_
      refine v_istore_3 G (decAt dd_RC_follows 4 rfl) (by decide) rfl ?_
      refine v_iload_n G (decAt dd_RC_follows 5 rfl) rfl ?_
      refine v_bipush G 16 (decAt dd_RC_follows 6 rfl) (by decide) ?_
      refine v_icmp_eq G 24 (decAt dd_RC_follows 7 rfl) (by decide) (fun c10 => absurd c10 (by decide)) (fun _ => ?_)
      refine v_iload_n G (decAt dd_RC_follows 8 rfl) rfl ?_
      refine v_bipush G 17 (decAt dd_RC_follows 9 rfl) (by decide) ?_
      refine v_icmp_eq G 24 (decAt dd_RC_follows 10 rfl) (by decide) (fun c16 => absurd c16 (by decide)) (fun _ => ?_)
      refine v_iload_n G (decAt dd_RC_follows 11 rfl) rfl ?_
      refine v_iconst G 1 (decAt dd_RC_follows 12 rfl) (by decide) ?_
      refine v_icmp_le G 26 (decAt dd_RC_follows 13 rfl) (by decide) (fun c21 => absurd c21 (by decide)) (fun _ => ?_)
      refine v_iconst G (-1) (decAt dd_RC_follows 14 rfl) (by decide) ?_
      exact v_iret G (decAt dd_RC_follows 15 rfl) rfl ⟨some_i (show _ = oI (fol cd k 2) by unfold fol nx0 nx1; rw [hop, hi0]; dsimp only; simp [oI, nI_1]; try rfl), rfl, rfl, rfl, rfl, rfl⟩
  · rcases (show q = 0 ∨ q = 1 ∨ q = 2 by omega) with rfl | rfl | rfl
    · skip
      refine v_aload_n G (decAt dd_RC_follows 0 rfl) rfl ?_
      refine v_geta G (decAt dd_RC_follows 1 rfl) f_RC_13 ?_
      refine v_iload_n G (decAt dd_RC_follows 2 rfl) rfl ?_
      refine v_iald G 0 _ (decAt dd_RC_follows 3 rfl) (by decide) rfl (by first | with_reducible rfl | with_reducible exact nI_1 _ | with_reducible exact nI_add _ _ | assumption) (by omega) ?_
      refine v_ri (y := nI 13) hN1 ?_
      refine v_istore_3 G (decAt dd_RC_follows 4 rfl) (by decide) rfl ?_
      refine v_iload_n G (decAt dd_RC_follows 5 rfl) rfl ?_
      refine v_bipush G 16 (decAt dd_RC_follows 6 rfl) (by decide) ?_
      refine v_icmp_eq G 24 (decAt dd_RC_follows 7 rfl) (by decide) (fun c10 => absurd c10 (by decide)) (fun _ => ?_)
      refine v_iload_n G (decAt dd_RC_follows 8 rfl) rfl ?_
      refine v_bipush G 17 (decAt dd_RC_follows 9 rfl) (by decide) ?_
      refine v_icmp_eq G 24 (decAt dd_RC_follows 10 rfl) (by decide) (fun c16 => absurd c16 (by decide)) (fun _ => ?_)
      refine v_iload_n G (decAt dd_RC_follows 11 rfl) rfl ?_
      refine v_iconst G 1 (decAt dd_RC_follows 12 rfl) (by decide) ?_
      refine v_icmp_le G 26 (decAt dd_RC_follows 13 rfl) (by decide) (fun _ => ?_) (fun c21 => absurd c21 (by decide))
      refine v_iload_n G (decAt dd_RC_follows 16 rfl) rfl ?_
      refine v_bipush G 18 (decAt dd_RC_follows 17 rfl) (by decide) ?_
      refine v_icmp_ne G 56 (decAt dd_RC_follows 18 rfl) (by decide) (fun _ => ?_) (fun c29 => absurd c29 (by decide))
      refine v_iload_n G (decAt dd_RC_follows 35 rfl) rfl ?_
      refine v_bipush G 10 (decAt dd_RC_follows 36 rfl) (by decide) ?_
      refine v_icmp_ne G 82 (decAt dd_RC_follows 37 rfl) (by decide) (fun _ => ?_) (fun c59 => absurd c59 (by decide))
      refine v_iload_n G (decAt dd_RC_follows 50 rfl) rfl ?_
      refine v_if_ne G 90 (decAt dd_RC_follows 51 rfl) (by decide) (fun c83 => absurd c83 (by decide)) (fun _ => ?_)
      refine v_iload_n G (decAt dd_RC_follows 52 rfl) rfl ?_
      refine v_iconst G 1 (decAt dd_RC_follows 53 rfl) (by decide) ?_
      refine v_iadd G (decAt dd_RC_follows 54 rfl) ?_
      exact v_iret G (decAt dd_RC_follows 55 rfl) rfl ⟨some_i (show _ = oI (fol cd k 0) by unfold fol nx0 nx1; rw [hop, hi0]; dsimp only; simp [oI, nI_1]; try rfl), rfl, rfl, rfl, rfl, rfl⟩
    · skip
      refine v_aload_n G (decAt dd_RC_follows 0 rfl) rfl ?_
      refine v_geta G (decAt dd_RC_follows 1 rfl) f_RC_13 ?_
      refine v_iload_n G (decAt dd_RC_follows 2 rfl) rfl ?_
      refine v_iald G 0 _ (decAt dd_RC_follows 3 rfl) (by decide) rfl (by first | with_reducible rfl | with_reducible exact nI_1 _ | with_reducible exact nI_add _ _ | assumption) (by omega) ?_
      refine v_ri (y := nI 13) hN1 ?_
      refine v_istore_3 G (decAt dd_RC_follows 4 rfl) (by decide) rfl ?_
      refine v_iload_n G (decAt dd_RC_follows 5 rfl) rfl ?_
      refine v_bipush G 16 (decAt dd_RC_follows 6 rfl) (by decide) ?_
      refine v_icmp_eq G 24 (decAt dd_RC_follows 7 rfl) (by decide) (fun c10 => absurd c10 (by decide)) (fun _ => ?_)
      refine v_iload_n G (decAt dd_RC_follows 8 rfl) rfl ?_
      refine v_bipush G 17 (decAt dd_RC_follows 9 rfl) (by decide) ?_
      refine v_icmp_eq G 24 (decAt dd_RC_follows 10 rfl) (by decide) (fun c16 => absurd c16 (by decide)) (fun _ => ?_)
      refine v_iload_n G (decAt dd_RC_follows 11 rfl) rfl ?_
      refine v_iconst G 1 (decAt dd_RC_follows 12 rfl) (by decide) ?_
      refine v_icmp_le G 26 (decAt dd_RC_follows 13 rfl) (by decide) (fun _ => ?_) (fun c21 => absurd c21 (by decide))
      refine v_iload_n G (decAt dd_RC_follows 16 rfl) rfl ?_
      refine v_bipush G 18 (decAt dd_RC_follows 17 rfl) (by decide) ?_
      refine v_icmp_ne G 56 (decAt dd_RC_follows 18 rfl) (by decide) (fun _ => ?_) (fun c29 => absurd c29 (by decide))
      refine v_iload_n G (decAt dd_RC_follows 35 rfl) rfl ?_
      refine v_bipush G 10 (decAt dd_RC_follows 36 rfl) (by decide) ?_
      refine v_icmp_ne G 82 (decAt dd_RC_follows 37 rfl) (by decide) (fun _ => ?_) (fun c59 => absurd c59 (by decide))
      refine v_iload_n G (decAt dd_RC_follows 50 rfl) rfl ?_
      refine v_if_ne G 90 (decAt dd_RC_follows 51 rfl) (by decide) (fun _ => ?_) (fun c83 => absurd c83 (by decide))
      refine v_iload_n G (decAt dd_RC_follows 56 rfl) rfl ?_
      refine v_bipush G 11 (decAt dd_RC_follows 57 rfl) (by decide) ?_
      refine v_icmp_eq G 102 (decAt dd_RC_follows 58 rfl) (by decide) (fun c93 => absurd c93 (by decide)) (fun _ => ?_)
      refine v_iload_n G (decAt dd_RC_follows 59 rfl) rfl ?_
      refine v_bipush G 12 (decAt dd_RC_follows 60 rfl) (by decide) ?_
      refine v_icmp_ne G 116 (decAt dd_RC_follows 61 rfl) (by decide) (fun _ => ?_) (fun c99 => absurd c99 (by decide))
      refine v_iconst G (-1) (decAt dd_RC_follows 70 rfl) (by decide) ?_
      exact v_iret G (decAt dd_RC_follows 71 rfl) rfl ⟨some_i (show _ = oI (fol cd k 1) by unfold fol nx0 nx1; rw [hop, hi0]; dsimp only; simp [oI, nI_1]; try rfl), rfl, rfl, rfl, rfl, rfl⟩
    · skip
      refine v_aload_n G (decAt dd_RC_follows 0 rfl) rfl ?_
      refine v_geta G (decAt dd_RC_follows 1 rfl) f_RC_13 ?_
      refine v_iload_n G (decAt dd_RC_follows 2 rfl) rfl ?_
      refine v_iald G 0 _ (decAt dd_RC_follows 3 rfl) (by decide) rfl (by first | with_reducible rfl | with_reducible exact nI_1 _ | with_reducible exact nI_add _ _ | assumption) (by omega) ?_
      refine v_ri (y := nI 13) hN1 ?_
      refine v_istore_3 G (decAt dd_RC_follows 4 rfl) (by decide) rfl ?_
      refine v_iload_n G (decAt dd_RC_follows 5 rfl) rfl ?_
      refine v_bipush G 16 (decAt dd_RC_follows 6 rfl) (by decide) ?_
      refine v_icmp_eq G 24 (decAt dd_RC_follows 7 rfl) (by decide) (fun c10 => absurd c10 (by decide)) (fun _ => ?_)
      refine v_iload_n G (decAt dd_RC_follows 8 rfl) rfl ?_
      refine v_bipush G 17 (decAt dd_RC_follows 9 rfl) (by decide) ?_
      refine v_icmp_eq G 24 (decAt dd_RC_follows 10 rfl) (by decide) (fun c16 => absurd c16 (by decide)) (fun _ => ?_)
      refine v_iload_n G (decAt dd_RC_follows 11 rfl) rfl ?_
      refine v_iconst G 1 (decAt dd_RC_follows 12 rfl) (by decide) ?_
      refine v_icmp_le G 26 (decAt dd_RC_follows 13 rfl) (by decide) (fun c21 => absurd c21 (by decide)) (fun _ => ?_)
      refine v_iconst G (-1) (decAt dd_RC_follows 14 rfl) (by decide) ?_
      exact v_iret G (decAt dd_RC_follows 15 rfl) rfl ⟨some_i (show _ = oI (fol cd k 2) by unfold fol nx0 nx1; rw [hop, hi0]; dsimp only; simp [oI, nI_1]; try rfl), rfl, rfl, rfl, rfl, rfl⟩
  · rcases (show q = 0 ∨ q = 1 ∨ q = 2 by omega) with rfl | rfl | rfl
    · skip
      refine v_aload_n G (decAt dd_RC_follows 0 rfl) rfl ?_
      refine v_geta G (decAt dd_RC_follows 1 rfl) f_RC_13 ?_
      refine v_iload_n G (decAt dd_RC_follows 2 rfl) rfl ?_
      refine v_iald G 0 _ (decAt dd_RC_follows 3 rfl) (by decide) rfl (by first | with_reducible rfl | with_reducible exact nI_1 _ | with_reducible exact nI_add _ _ | assumption) (by omega) ?_
      refine v_ri (y := nI 14) hN1 ?_
      refine v_istore_3 G (decAt dd_RC_follows 4 rfl) (by decide) rfl ?_
      refine v_iload_n G (decAt dd_RC_follows 5 rfl) rfl ?_
      refine v_bipush G 16 (decAt dd_RC_follows 6 rfl) (by decide) ?_
      refine v_icmp_eq G 24 (decAt dd_RC_follows 7 rfl) (by decide) (fun c10 => absurd c10 (by decide)) (fun _ => ?_)
      refine v_iload_n G (decAt dd_RC_follows 8 rfl) rfl ?_
      refine v_bipush G 17 (decAt dd_RC_follows 9 rfl) (by decide) ?_
      refine v_icmp_eq G 24 (decAt dd_RC_follows 10 rfl) (by decide) (fun c16 => absurd c16 (by decide)) (fun _ => ?_)
      refine v_iload_n G (decAt dd_RC_follows 11 rfl) rfl ?_
      refine v_iconst G 1 (decAt dd_RC_follows 12 rfl) (by decide) ?_
      refine v_icmp_le G 26 (decAt dd_RC_follows 13 rfl) (by decide) (fun _ => ?_) (fun c21 => absurd c21 (by decide))
      refine v_iload_n G (decAt dd_RC_follows 16 rfl) rfl ?_
      refine v_bipush G 18 (decAt dd_RC_follows 17 rfl) (by decide) ?_
      refine v_icmp_ne G 56 (decAt dd_RC_follows 18 rfl) (by decide) (fun _ => ?_) (fun c29 => absurd c29 (by decide))
      refine v_iload_n G (decAt dd_RC_follows 35 rfl) rfl ?_
      refine v_bipush G 10 (decAt dd_RC_follows 36 rfl) (by decide) ?_
      refine v_icmp_ne G 82 (decAt dd_RC_follows 37 rfl) (by decide) (fun _ => ?_) (fun c59 => absurd c59 (by decide))
      refine v_iload_n G (decAt dd_RC_follows 50 rfl) rfl ?_
      refine v_if_ne G 90 (decAt dd_RC_follows 51 rfl) (by decide) (fun c83 => absurd c83 (by decide)) (fun _ => ?_)
      refine v_iload_n G (decAt dd_RC_follows 52 rfl) rfl ?_
      refine v_iconst G 1 (decAt dd_RC_follows 53 rfl) (by decide) ?_
      refine v_iadd G (decAt dd_RC_follows 54 rfl) ?_
      exact v_iret G (decAt dd_RC_follows 55 rfl) rfl ⟨some_i (show _ = oI (fol cd k 0) by unfold fol nx0 nx1; rw [hop, hi0]; dsimp only; simp [oI, nI_1]; try rfl), rfl, rfl, rfl, rfl, rfl⟩
    · skip
      refine v_aload_n G (decAt dd_RC_follows 0 rfl) rfl ?_
      refine v_geta G (decAt dd_RC_follows 1 rfl) f_RC_13 ?_
      refine v_iload_n G (decAt dd_RC_follows 2 rfl) rfl ?_
      refine v_iald G 0 _ (decAt dd_RC_follows 3 rfl) (by decide) rfl (by first | with_reducible rfl | with_reducible exact nI_1 _ | with_reducible exact nI_add _ _ | assumption) (by omega) ?_
      refine v_ri (y := nI 14) hN1 ?_
      refine v_istore_3 G (decAt dd_RC_follows 4 rfl) (by decide) rfl ?_
      refine v_iload_n G (decAt dd_RC_follows 5 rfl) rfl ?_
      refine v_bipush G 16 (decAt dd_RC_follows 6 rfl) (by decide) ?_
      refine v_icmp_eq G 24 (decAt dd_RC_follows 7 rfl) (by decide) (fun c10 => absurd c10 (by decide)) (fun _ => ?_)
      refine v_iload_n G (decAt dd_RC_follows 8 rfl) rfl ?_
      refine v_bipush G 17 (decAt dd_RC_follows 9 rfl) (by decide) ?_
      refine v_icmp_eq G 24 (decAt dd_RC_follows 10 rfl) (by decide) (fun c16 => absurd c16 (by decide)) (fun _ => ?_)
      refine v_iload_n G (decAt dd_RC_follows 11 rfl) rfl ?_
      refine v_iconst G 1 (decAt dd_RC_follows 12 rfl) (by decide) ?_
      refine v_icmp_le G 26 (decAt dd_RC_follows 13 rfl) (by decide) (fun _ => ?_) (fun c21 => absurd c21 (by decide))
      refine v_iload_n G (decAt dd_RC_follows 16 rfl) rfl ?_
      refine v_bipush G 18 (decAt dd_RC_follows 17 rfl) (by decide) ?_
      refine v_icmp_ne G 56 (decAt dd_RC_follows 18 rfl) (by decide) (fun _ => ?_) (fun c29 => absurd c29 (by decide))
      refine v_iload_n G (decAt dd_RC_follows 35 rfl) rfl ?_
      refine v_bipush G 10 (decAt dd_RC_follows 36 rfl) (by decide) ?_
      refine v_icmp_ne G 82 (decAt dd_RC_follows 37 rfl) (by decide) (fun _ => ?_) (fun c59 => absurd c59 (by decide))
      refine v_iload_n G (decAt dd_RC_follows 50 rfl) rfl ?_
      refine v_if_ne G 90 (decAt dd_RC_follows 51 rfl) (by decide) (fun _ => ?_) (fun c83 => absurd c83 (by decide))
      refine v_iload_n G (decAt dd_RC_follows 56 rfl) rfl ?_
      refine v_bipush G 11 (decAt dd_RC_follows 57 rfl) (by decide) ?_
      refine v_icmp_eq G 102 (decAt dd_RC_follows 58 rfl) (by decide) (fun c93 => absurd c93 (by decide)) (fun _ => ?_)
      refine v_iload_n G (decAt dd_RC_follows 59 rfl) rfl ?_
      refine v_bipush G 12 (decAt dd_RC_follows 60 rfl) (by decide) ?_
      refine v_icmp_ne G 116 (decAt dd_RC_follows 61 rfl) (by decide) (fun _ => ?_) (fun c99 => absurd c99 (by decide))
      refine v_iconst G (-1) (decAt dd_RC_follows 70 rfl) (by decide) ?_
      exact v_iret G (decAt dd_RC_follows 71 rfl) rfl ⟨some_i (show _ = oI (fol cd k 1) by unfold fol nx0 nx1; rw [hop, hi0]; dsimp only; simp [oI, nI_1]; try rfl), rfl, rfl, rfl, rfl, rfl⟩
    · skip
      refine v_aload_n G (decAt dd_RC_follows 0 rfl) rfl ?_
      refine v_geta G (decAt dd_RC_follows 1 rfl) f_RC_13 ?_
      refine v_iload_n G (decAt dd_RC_follows 2 rfl) rfl ?_
      refine v_iald G 0 _ (decAt dd_RC_follows 3 rfl) (by decide) rfl (by first | with_reducible rfl | with_reducible exact nI_1 _ | with_reducible exact nI_add _ _ | assumption) (by omega) ?_
      refine v_ri (y := nI 14) hN1 ?_
      refine v_istore_3 G (decAt dd_RC_follows 4 rfl) (by decide) rfl ?_
      refine v_iload_n G (decAt dd_RC_follows 5 rfl) rfl ?_
      refine v_bipush G 16 (decAt dd_RC_follows 6 rfl) (by decide) ?_
      refine v_icmp_eq G 24 (decAt dd_RC_follows 7 rfl) (by decide) (fun c10 => absurd c10 (by decide)) (fun _ => ?_)
      refine v_iload_n G (decAt dd_RC_follows 8 rfl) rfl ?_
      refine v_bipush G 17 (decAt dd_RC_follows 9 rfl) (by decide) ?_
      refine v_icmp_eq G 24 (decAt dd_RC_follows 10 rfl) (by decide) (fun c16 => absurd c16 (by decide)) (fun _ => ?_)
      refine v_iload_n G (decAt dd_RC_follows 11 rfl) rfl ?_
      refine v_iconst G 1 (decAt dd_RC_follows 12 rfl) (by decide) ?_
      refine v_icmp_le G 26 (decAt dd_RC_follows 13 rfl) (by decide) (fun c21 => absurd c21 (by decide)) (fun _ => ?_)
      refine v_iconst G (-1) (decAt dd_RC_follows 14 rfl) (by decide) ?_
      exact v_iret G (decAt dd_RC_follows 15 rfl) rfl ⟨some_i (show _ = oI (fol cd k 2) by unfold fol nx0 nx1; rw [hop, hi0]; dsimp only; simp [oI, nI_1]; try rfl), rfl, rfl, rfl, rfl, rfl⟩
  · rcases (show q = 0 ∨ q = 1 ∨ q = 2 by omega) with rfl | rfl | rfl
    · skip
      refine v_aload_n G (decAt dd_RC_follows 0 rfl) rfl ?_
      refine v_geta G (decAt dd_RC_follows 1 rfl) f_RC_13 ?_
      refine v_iload_n G (decAt dd_RC_follows 2 rfl) rfl ?_
      refine v_iald G 0 _ (decAt dd_RC_follows 3 rfl) (by decide) rfl (by first | with_reducible rfl | with_reducible exact nI_1 _ | with_reducible exact nI_add _ _ | assumption) (by omega) ?_
      refine v_ri (y := nI 15) hN1 ?_
      refine v_istore_3 G (decAt dd_RC_follows 4 rfl) (by decide) rfl ?_
      refine v_iload_n G (decAt dd_RC_follows 5 rfl) rfl ?_
      refine v_bipush G 16 (decAt dd_RC_follows 6 rfl) (by decide) ?_
      refine v_icmp_eq G 24 (decAt dd_RC_follows 7 rfl) (by decide) (fun c10 => absurd c10 (by decide)) (fun _ => ?_)
      refine v_iload_n G (decAt dd_RC_follows 8 rfl) rfl ?_
      refine v_bipush G 17 (decAt dd_RC_follows 9 rfl) (by decide) ?_
      refine v_icmp_eq G 24 (decAt dd_RC_follows 10 rfl) (by decide) (fun c16 => absurd c16 (by decide)) (fun _ => ?_)
      refine v_iload_n G (decAt dd_RC_follows 11 rfl) rfl ?_
      refine v_iconst G 1 (decAt dd_RC_follows 12 rfl) (by decide) ?_
      refine v_icmp_le G 26 (decAt dd_RC_follows 13 rfl) (by decide) (fun _ => ?_) (fun c21 => absurd c21 (by decide))
      refine v_iload_n G (decAt dd_RC_follows 16 rfl) rfl ?_
      refine v_bipush G 18 (decAt dd_RC_follows 17 rfl) (by decide) ?_
      refine v_icmp_ne G 56 (decAt dd_RC_follows 18 rfl) (by decide) (fun _ => ?_) (fun c29 => absurd c29 (by decide))
      refine v_iload_n G (decAt dd_RC_follows 35 rfl) rfl ?_
      refine v_bipush G 10 (decAt dd_RC_follows 36 rfl) (by decide) ?_
      refine v_icmp_ne G 82 (decAt dd_RC_follows 37 rfl) (by decide) (fun _ => ?_) (fun c59 => absurd c59 (by decide))
      refine v_iload_n G (decAt dd_RC_follows 50 rfl) rfl ?_
      refine v_if_ne G 90 (decAt dd_RC_follows 51 rfl) (by decide) (fun c83 => absurd c83 (by decide)) (fun _ => ?_)
      refine v_iload_n G (decAt dd_RC_follows 52 rfl) rfl ?_
      refine v_iconst G 1 (decAt dd_RC_follows 53 rfl) (by decide) ?_
      refine v_iadd G (decAt dd_RC_follows 54 rfl) ?_
      exact v_iret G (decAt dd_RC_follows 55 rfl) rfl ⟨some_i (show _ = oI (fol cd k 0) by unfold fol nx0 nx1; rw [hop, hi0]; dsimp only; simp [oI, nI_1]; try rfl), rfl, rfl, rfl, rfl, rfl⟩
    · skip
      refine v_aload_n G (decAt dd_RC_follows 0 rfl) rfl ?_
      refine v_geta G (decAt dd_RC_follows 1 rfl) f_RC_13 ?_
      refine v_iload_n G (decAt dd_RC_follows 2 rfl) rfl ?_
      refine v_iald G 0 _ (decAt dd_RC_follows 3 rfl) (by decide) rfl (by first | with_reducible rfl | with_reducible exact nI_1 _ | with_reducible exact nI_add _ _ | assumption) (by omega) ?_
      refine v_ri (y := nI 15) hN1 ?_
      refine v_istore_3 G (decAt dd_RC_follows 4 rfl) (by decide) rfl ?_
      refine v_iload_n G (decAt dd_RC_follows 5 rfl) rfl ?_
      refine v_bipush G 16 (decAt dd_RC_follows 6 rfl) (by decide) ?_
      refine v_icmp_eq G 24 (decAt dd_RC_follows 7 rfl) (by decide) (fun c10 => absurd c10 (by decide)) (fun _ => ?_)
      refine v_iload_n G (decAt dd_RC_follows 8 rfl) rfl ?_
      refine v_bipush G 17 (decAt dd_RC_follows 9 rfl) (by decide) ?_
      refine v_icmp_eq G 24 (decAt dd_RC_follows 10 rfl) (by decide) (fun c16 => absurd c16 (by decide)) (fun _ => ?_)
      refine v_iload_n G (decAt dd_RC_follows 11 rfl) rfl ?_
      refine v_iconst G 1 (decAt dd_RC_follows 12 rfl) (by decide) ?_
      refine v_icmp_le G 26 (decAt dd_RC_follows 13 rfl) (by decide) (fun _ => ?_) (fun c21 => absurd c21 (by decide))
      refine v_iload_n G (decAt dd_RC_follows 16 rfl) rfl ?_
      refine v_bipush G 18 (decAt dd_RC_follows 17 rfl) (by decide) ?_
      refine v_icmp_ne G 56 (decAt dd_RC_follows 18 rfl) (by decide) (fun _ => ?_) (fun c29 => absurd c29 (by decide))
      refine v_iload_n G (decAt dd_RC_follows 35 rfl) rfl ?_
      refine v_bipush G 10 (decAt dd_RC_follows 36 rfl) (by decide) ?_
      refine v_icmp_ne G 82 (decAt dd_RC_follows 37 rfl) (by decide) (fun _ => ?_) (fun c59 => absurd c59 (by decide))
      refine v_iload_n G (decAt dd_RC_follows 50 rfl) rfl ?_
      refine v_if_ne G 90 (decAt dd_RC_follows 51 rfl) (by decide) (fun _ => ?_) (fun c83 => absurd c83 (by decide))
      refine v_iload_n G (decAt dd_RC_follows 56 rfl) rfl ?_
      refine v_bipush G 11 (decAt dd_RC_follows 57 rfl) (by decide) ?_
      refine v_icmp_eq G 102 (decAt dd_RC_follows 58 rfl) (by decide) (fun c93 => absurd c93 (by decide)) (fun _ => ?_)
      refine v_iload_n G (decAt dd_RC_follows 59 rfl) rfl ?_
      refine v_bipush G 12 (decAt dd_RC_follows 60 rfl) (by decide) ?_
      refine v_icmp_ne G 116 (decAt dd_RC_follows 61 rfl) (by decide) (fun _ => ?_) (fun c99 => absurd c99 (by decide))
      refine v_iconst G (-1) (decAt dd_RC_follows 70 rfl) (by decide) ?_
      exact v_iret G (decAt dd_RC_follows 71 rfl) rfl ⟨some_i (show _ = oI (fol cd k 1) by unfold fol nx0 nx1; rw [hop, hi0]; dsimp only; simp [oI, nI_1]; try rfl), rfl, rfl, rfl, rfl, rfl⟩
    · skip
      refine v_aload_n G (decAt dd_RC_follows 0 rfl) rfl ?_
      refine v_geta G (decAt dd_RC_follows 1 rfl) f_RC_13 ?_
      refine v_iload_n G (decAt dd_RC_follows 2 rfl) rfl ?_
      refine v_iald G 0 _ (decAt dd_RC_follows 3 rfl) (by decide) rfl (by first | with_reducible rfl | with_reducible exact nI_1 _ | with_reducible exact nI_add _ _ | assumption) (by omega) ?_
      refine v_ri (y := nI 15) hN1 ?_
      refine v_istore_3 G (decAt dd_RC_follows 4 rfl) (by decide) rfl ?_
      refine v_iload_n G (decAt dd_RC_follows 5 rfl) rfl ?_
      refine v_bipush G 16 (decAt dd_RC_follows 6 rfl) (by decide) ?_
      refine v_icmp_eq G 24 (decAt dd_RC_follows 7 rfl) (by decide) (fun c10 => absurd c10 (by decide)) (fun _ => ?_)
      refine v_iload_n G (decAt dd_RC_follows 8 rfl) rfl ?_
      refine v_bipush G 17 (decAt dd_RC_follows 9 rfl) (by decide) ?_
      refine v_icmp_eq G 24 (decAt dd_RC_follows 10 rfl) (by decide) (fun c16 => absurd c16 (by decide)) (fun _ => ?_)
      refine v_iload_n G (decAt dd_RC_follows 11 rfl) rfl ?_
      refine v_iconst G 1 (decAt dd_RC_follows 12 rfl) (by decide) ?_
      refine v_icmp_le G 26 (decAt dd_RC_follows 13 rfl) (by decide) (fun c21 => absurd c21 (by decide)) (fun _ => ?_)
      refine v_iconst G (-1) (decAt dd_RC_follows 14 rfl) (by decide) ?_
      exact v_iret G (decAt dd_RC_follows 15 rfl) rfl ⟨some_i (show _ = oI (fol cd k 2) by unfold fol nx0 nx1; rw [hop, hi0]; dsimp only; simp [oI, nI_1]; try rfl), rfl, rfl, rfl, rfl, rfl⟩
  · rcases (show q = 0 ∨ q = 1 ∨ q = 2 by omega) with rfl | rfl | rfl
    · skip
      refine v_aload_n G (decAt dd_RC_follows 0 rfl) rfl ?_
      refine v_geta G (decAt dd_RC_follows 1 rfl) f_RC_13 ?_
      refine v_iload_n G (decAt dd_RC_follows 2 rfl) rfl ?_
      refine v_iald G 0 _ (decAt dd_RC_follows 3 rfl) (by decide) rfl (by first | with_reducible rfl | with_reducible exact nI_1 _ | with_reducible exact nI_add _ _ | assumption) (by omega) ?_
      refine v_ri (y := nI 16) hN1 ?_
      refine v_istore_3 G (decAt dd_RC_follows 4 rfl) (by decide) rfl ?_
      refine v_iload_n G (decAt dd_RC_follows 5 rfl) rfl ?_
      refine v_bipush G 16 (decAt dd_RC_follows 6 rfl) (by decide) ?_
      refine v_icmp_eq G 24 (decAt dd_RC_follows 7 rfl) (by decide) (fun _ => ?_) (fun c10 => absurd c10 (by decide))
      refine v_iconst G (-1) (decAt dd_RC_follows 14 rfl) (by decide) ?_
      exact v_iret G (decAt dd_RC_follows 15 rfl) rfl ⟨some_i (show _ = oI (fol cd k 0) by unfold fol nx0 nx1; rw [hop, hi0]; dsimp only; simp [oI, nI_1]; try rfl), rfl, rfl, rfl, rfl, rfl⟩
    · skip
      refine v_aload_n G (decAt dd_RC_follows 0 rfl) rfl ?_
      refine v_geta G (decAt dd_RC_follows 1 rfl) f_RC_13 ?_
      refine v_iload_n G (decAt dd_RC_follows 2 rfl) rfl ?_
      refine v_iald G 0 _ (decAt dd_RC_follows 3 rfl) (by decide) rfl (by first | with_reducible rfl | with_reducible exact nI_1 _ | with_reducible exact nI_add _ _ | assumption) (by omega) ?_
      refine v_ri (y := nI 16) hN1 ?_
      refine v_istore_3 G (decAt dd_RC_follows 4 rfl) (by decide) rfl ?_
      refine v_iload_n G (decAt dd_RC_follows 5 rfl) rfl ?_
      refine v_bipush G 16 (decAt dd_RC_follows 6 rfl) (by decide) ?_
      refine v_icmp_eq G 24 (decAt dd_RC_follows 7 rfl) (by decide) (fun _ => ?_) (fun c10 => absurd c10 (by decide))
      refine v_iconst G (-1) (decAt dd_RC_follows 14 rfl) (by decide) ?_
      exact v_iret G (decAt dd_RC_follows 15 rfl) rfl ⟨some_i (show _ = oI (fol cd k 1) by unfold fol nx0 nx1; rw [hop, hi0]; dsimp only; simp [oI, nI_1]; try rfl), rfl, rfl, rfl, rfl, rfl⟩
    · skip
      refine v_aload_n G (decAt dd_RC_follows 0 rfl) rfl ?_
      refine v_geta G (decAt dd_RC_follows 1 rfl) f_RC_13 ?_
      refine v_iload_n G (decAt dd_RC_follows 2 rfl) rfl ?_
      refine v_iald G 0 _ (decAt dd_RC_follows 3 rfl) (by decide) rfl (by first | with_reducible rfl | with_reducible exact nI_1 _ | with_reducible exact nI_add _ _ | assumption) (by omega) ?_
      refine v_ri (y := nI 16) hN1 ?_
      refine v_istore_3 G (decAt dd_RC_follows 4 rfl) (by decide) rfl ?_
      refine v_iload_n G (decAt dd_RC_follows 5 rfl) rfl ?_
      refine v_bipush G 16 (decAt dd_RC_follows 6 rfl) (by decide) ?_
      refine v_icmp_eq G 24 (decAt dd_RC_follows 7 rfl) (by decide) (fun _ => ?_) (fun c10 => absurd c10 (by decide))
      refine v_iconst G (-1) (decAt dd_RC_follows 14 rfl) (by decide) ?_
      exact v_iret G (decAt dd_RC_follows 15 rfl) rfl ⟨some_i (show _ = oI (fol cd k 2) by unfold fol nx0 nx1; rw [hop, hi0]; dsimp only; simp [oI, nI_1]; try rfl), rfl, rfl, rfl, rfl, rfl⟩
  · rcases (show q = 0 ∨ q = 1 ∨ q = 2 by omega) with rfl | rfl | rfl
    · skip
      refine v_aload_n G (decAt dd_RC_follows 0 rfl) rfl ?_
      refine v_geta G (decAt dd_RC_follows 1 rfl) f_RC_13 ?_
      refine v_iload_n G (decAt dd_RC_follows 2 rfl) rfl ?_
      refine v_iald G 0 _ (decAt dd_RC_follows 3 rfl) (by decide) rfl (by first | with_reducible rfl | with_reducible exact nI_1 _ | with_reducible exact nI_add _ _ | assumption) (by omega) ?_
      refine v_ri (y := nI 17) hN1 ?_
      refine v_istore_3 G (decAt dd_RC_follows 4 rfl) (by decide) rfl ?_
      refine v_iload_n G (decAt dd_RC_follows 5 rfl) rfl ?_
      refine v_bipush G 16 (decAt dd_RC_follows 6 rfl) (by decide) ?_
      refine v_icmp_eq G 24 (decAt dd_RC_follows 7 rfl) (by decide) (fun c10 => absurd c10 (by decide)) (fun _ => ?_)
      refine v_iload_n G (decAt dd_RC_follows 8 rfl) rfl ?_
      refine v_bipush G 17 (decAt dd_RC_follows 9 rfl) (by decide) ?_
      refine v_icmp_eq G 24 (decAt dd_RC_follows 10 rfl) (by decide) (fun _ => ?_) (fun c16 => absurd c16 (by decide))
      refine v_iconst G (-1) (decAt dd_RC_follows 14 rfl) (by decide) ?_
      exact v_iret G (decAt dd_RC_follows 15 rfl) rfl ⟨some_i (show _ = oI (fol cd k 0) by unfold fol nx0 nx1; rw [hop, hi0]; dsimp only; simp [oI, nI_1]; try rfl), rfl, rfl, rfl, rfl, rfl⟩
    · skip
      refine v_aload_n G (decAt dd_RC_follows 0 rfl) rfl ?_
      refine v_geta G (decAt dd_RC_follows 1 rfl) f_RC_13 ?_
      refine v_iload_n G (decAt dd_RC_follows 2 rfl) rfl ?_
      refine v_iald G 0 _ (decAt dd_RC_follows 3 rfl) (by decide) rfl (by first | with_reducible rfl | with_reducible exact nI_1 _ | with_reducible exact nI_add _ _ | assumption) (by omega) ?_
      refine v_ri (y := nI 17) hN1 ?_
      refine v_istore_3 G (decAt dd_RC_follows 4 rfl) (by decide) rfl ?_
      refine v_iload_n G (decAt dd_RC_follows 5 rfl) rfl ?_
      refine v_bipush G 16 (decAt dd_RC_follows 6 rfl) (by decide) ?_
      refine v_icmp_eq G 24 (decAt dd_RC_follows 7 rfl) (by decide) (fun c10 => absurd c10 (by decide)) (fun _ => ?_)
      refine v_iload_n G (decAt dd_RC_follows 8 rfl) rfl ?_
      refine v_bipush G 17 (decAt dd_RC_follows 9 rfl) (by decide) ?_
      refine v_icmp_eq G 24 (decAt dd_RC_follows 10 rfl) (by decide) (fun _ => ?_) (fun c16 => absurd c16 (by decide))
      refine v_iconst G (-1) (decAt dd_RC_follows 14 rfl) (by decide) ?_
      exact v_iret G (decAt dd_RC_follows 15 rfl) rfl ⟨some_i (show _ = oI (fol cd k 1) by unfold fol nx0 nx1; rw [hop, hi0]; dsimp only; simp [oI, nI_1]; try rfl), rfl, rfl, rfl, rfl, rfl⟩
    · skip
      refine v_aload_n G (decAt dd_RC_follows 0 rfl) rfl ?_
      refine v_geta G (decAt dd_RC_follows 1 rfl) f_RC_13 ?_
      refine v_iload_n G (decAt dd_RC_follows 2 rfl) rfl ?_
      refine v_iald G 0 _ (decAt dd_RC_follows 3 rfl) (by decide) rfl (by first | with_reducible rfl | with_reducible exact nI_1 _ | with_reducible exact nI_add _ _ | assumption) (by omega) ?_
      refine v_ri (y := nI 17) hN1 ?_
      refine v_istore_3 G (decAt dd_RC_follows 4 rfl) (by decide) rfl ?_
      refine v_iload_n G (decAt dd_RC_follows 5 rfl) rfl ?_
      refine v_bipush G 16 (decAt dd_RC_follows 6 rfl) (by decide) ?_
      refine v_icmp_eq G 24 (decAt dd_RC_follows 7 rfl) (by decide) (fun c10 => absurd c10 (by decide)) (fun _ => ?_)
      refine v_iload_n G (decAt dd_RC_follows 8 rfl) rfl ?_
      refine v_bipush G 17 (decAt dd_RC_follows 9 rfl) (by decide) ?_
      refine v_icmp_eq G 24 (decAt dd_RC_follows 10 rfl) (by decide) (fun _ => ?_) (fun c16 => absurd c16 (by decide))
      refine v_iconst G (-1) (decAt dd_RC_follows 14 rfl) (by decide) ?_
      exact v_iret G (decAt dd_RC_follows 15 rfl) rfl ⟨some_i (show _ = oI (fol cd k 2) by unfold fol nx0 nx1; rw [hop, hi0]; dsimp only; simp [oI, nI_1]; try rfl), rfl, rfl, rfl, rfl, rfl⟩
  · rcases (show q = 0 ∨ q = 1 ∨ q = 2 by omega) with rfl | rfl | rfl
    · skip
      obtain ⟨k2, hk2⟩ := (hL k 18 a hi0).2.2.2.2 rfl
      have hi2 := (List.getElem?_eq_some_iff.mp hk2).1
      obtain ⟨hP1, hP2, -⟩ := hC (k + 1) 12 k2 hk2
      obtain ⟨tl, htl⟩ := (hL (k + 1) 12 k2 hk2).2.2.2.1 (by omega)
      obtain ⟨lb, hlb1, hlb2, hlb3⟩ := hlab (hL (k + 1) 12 k2 hk2).2.1 htl
      refine v_aload_n G (decAt dd_RC_follows 0 rfl) rfl ?_
      refine v_geta G (decAt dd_RC_follows 1 rfl) f_RC_13 ?_
      refine v_iload_n G (decAt dd_RC_follows 2 rfl) rfl ?_
      refine v_iald G 0 _ (decAt dd_RC_follows 3 rfl) (by decide) rfl (by first | with_reducible rfl | with_reducible exact nI_1 _ | with_reducible exact nI_add _ _ | assumption) (by omega) ?_
      refine v_ri (y := nI 18) hN1 ?_
      refine v_istore_3 G (decAt dd_RC_follows 4 rfl) (by decide) rfl ?_
      refine v_iload_n G (decAt dd_RC_follows 5 rfl) rfl ?_
      refine v_bipush G 16 (decAt dd_RC_follows 6 rfl) (by decide) ?_
      refine v_icmp_eq G 24 (decAt dd_RC_follows 7 rfl) (by decide) (fun c10 => absurd c10 (by decide)) (fun _ => ?_)
      refine v_iload_n G (decAt dd_RC_follows 8 rfl) rfl ?_
      refine v_bipush G 17 (decAt dd_RC_follows 9 rfl) (by decide) ?_
      refine v_icmp_eq G 24 (decAt dd_RC_follows 10 rfl) (by decide) (fun c16 => absurd c16 (by decide)) (fun _ => ?_)
      refine v_iload_n G (decAt dd_RC_follows 11 rfl) rfl ?_
      refine v_iconst G 1 (decAt dd_RC_follows 12 rfl) (by decide) ?_
      refine v_icmp_le G 26 (decAt dd_RC_follows 13 rfl) (by decide) (fun _ => ?_) (fun c21 => absurd c21 (by decide))
      refine v_iload_n G (decAt dd_RC_follows 16 rfl) rfl ?_
      refine v_bipush G 18 (decAt dd_RC_follows 17 rfl) (by decide) ?_
      refine v_icmp_ne G 56 (decAt dd_RC_follows 18 rfl) (by decide) (fun c29 => absurd c29 (by decide)) (fun _ => ?_)
      refine v_iload_n G (decAt dd_RC_follows 19 rfl) rfl ?_
      refine v_if_ne G 52 (decAt dd_RC_follows 20 rfl) (by decide) (fun c33 => absurd c33 (by decide)) (fun _ => ?_)
      refine v_aload_n G (decAt dd_RC_follows 21 rfl) rfl ?_
      refine v_geta G (decAt dd_RC_follows 22 rfl) f_RC_48 ?_
      refine v_aload_n G (decAt dd_RC_follows 23 rfl) rfl ?_
      refine v_geta G (decAt dd_RC_follows 24 rfl) f_RC_17 ?_
      refine v_iload_n G (decAt dd_RC_follows 25 rfl) rfl ?_
      refine v_iconst G 1 (decAt dd_RC_follows 26 rfl) (by decide) ?_
      refine v_iadd G (decAt dd_RC_follows 27 rfl) ?_
      refine v_iald G 1 (k + 1) (decAt dd_RC_follows 28 rfl) (by decide) rfl (nI_1 k) (by omega) ?_
      refine v_ri (y := k2) hP2 ?_
      refine v_iald G 2 lb (decAt dd_RC_follows 29 rfl) (by decide) rfl hlb1 (by omega) ?_
      refine v_ri (y := nI tl) hlb3 ?_
      refine v_goto G 55 (decAt dd_RC_follows 30 rfl) (by decide) ?_
      exact v_iret G (decAt dd_RC_follows 34 rfl) rfl ⟨some_i (show nI tl = oI (fol cd k 0) by unfold fol nx1; rw [hop, hi0]; dsimp only; simp [hk2, htl, oI]), rfl, rfl, rfl, rfl, rfl⟩
    · skip
      refine v_aload_n G (decAt dd_RC_follows 0 rfl) rfl ?_
      refine v_geta G (decAt dd_RC_follows 1 rfl) f_RC_13 ?_
      refine v_iload_n G (decAt dd_RC_follows 2 rfl) rfl ?_
      refine v_iald G 0 _ (decAt dd_RC_follows 3 rfl) (by decide) rfl (by first | with_reducible rfl | with_reducible exact nI_1 _ | with_reducible exact nI_add _ _ | assumption) (by omega) ?_
      refine v_ri (y := nI 18) hN1 ?_
      refine v_istore_3 G (decAt dd_RC_follows 4 rfl) (by decide) rfl ?_
      refine v_iload_n G (decAt dd_RC_follows 5 rfl) rfl ?_
      refine v_bipush G 16 (decAt dd_RC_follows 6 rfl) (by decide) ?_
      refine v_icmp_eq G 24 (decAt dd_RC_follows 7 rfl) (by decide) (fun c10 => absurd c10 (by decide)) (fun _ => ?_)
      refine v_iload_n G (decAt dd_RC_follows 8 rfl) rfl ?_
      refine v_bipush G 17 (decAt dd_RC_follows 9 rfl) (by decide) ?_
      refine v_icmp_eq G 24 (decAt dd_RC_follows 10 rfl) (by decide) (fun c16 => absurd c16 (by decide)) (fun _ => ?_)
      refine v_iload_n G (decAt dd_RC_follows 11 rfl) rfl ?_
      refine v_iconst G 1 (decAt dd_RC_follows 12 rfl) (by decide) ?_
      refine v_icmp_le G 26 (decAt dd_RC_follows 13 rfl) (by decide) (fun _ => ?_) (fun c21 => absurd c21 (by decide))
      refine v_iload_n G (decAt dd_RC_follows 16 rfl) rfl ?_
      refine v_bipush G 18 (decAt dd_RC_follows 17 rfl) (by decide) ?_
      refine v_icmp_ne G 56 (decAt dd_RC_follows 18 rfl) (by decide) (fun c29 => absurd c29 (by decide)) (fun _ => ?_)
      refine v_iload_n G (decAt dd_RC_follows 19 rfl) rfl ?_
      refine v_if_ne G 52 (decAt dd_RC_follows 20 rfl) (by decide) (fun _ => ?_) (fun c33 => absurd c33 (by decide))
      refine v_iload_n G (decAt dd_RC_follows 31 rfl) rfl ?_
      refine v_iconst G 2 (decAt dd_RC_follows 32 rfl) (by decide) ?_
      refine v_iadd G (decAt dd_RC_follows 33 rfl) ?_
      exact v_iret G (decAt dd_RC_follows 34 rfl) rfl ⟨some_i (show nI k + 2 = oI (fol cd k 1) by unfold fol nx0 nx1; rw [hop, hi0]; dsimp only; simp [oI]; exact nI_add k 2), rfl, rfl, rfl, rfl, rfl⟩
    · skip
      refine v_aload_n G (decAt dd_RC_follows 0 rfl) rfl ?_
      refine v_geta G (decAt dd_RC_follows 1 rfl) f_RC_13 ?_
      refine v_iload_n G (decAt dd_RC_follows 2 rfl) rfl ?_
      refine v_iald G 0 _ (decAt dd_RC_follows 3 rfl) (by decide) rfl (by first | with_reducible rfl | with_reducible exact nI_1 _ | with_reducible exact nI_add _ _ | assumption) (by omega) ?_
      refine v_ri (y := nI 18) hN1 ?_
      refine v_istore_3 G (decAt dd_RC_follows 4 rfl) (by decide) rfl ?_
      refine v_iload_n G (decAt dd_RC_follows 5 rfl) rfl ?_
      refine v_bipush G 16 (decAt dd_RC_follows 6 rfl) (by decide) ?_
      refine v_icmp_eq G 24 (decAt dd_RC_follows 7 rfl) (by decide) (fun c10 => absurd c10 (by decide)) (fun _ => ?_)
      refine v_iload_n G (decAt dd_RC_follows 8 rfl) rfl ?_
      refine v_bipush G 17 (decAt dd_RC_follows 9 rfl) (by decide) ?_
      refine v_icmp_eq G 24 (decAt dd_RC_follows 10 rfl) (by decide) (fun c16 => absurd c16 (by decide)) (fun _ => ?_)
      refine v_iload_n G (decAt dd_RC_follows 11 rfl) rfl ?_
      refine v_iconst G 1 (decAt dd_RC_follows 12 rfl) (by decide) ?_
      refine v_icmp_le G 26 (decAt dd_RC_follows 13 rfl) (by decide) (fun c21 => absurd c21 (by decide)) (fun _ => ?_)
      refine v_iconst G (-1) (decAt dd_RC_follows 14 rfl) (by decide) ?_
      exact v_iret G (decAt dd_RC_follows 15 rfl) rfl ⟨some_i (show _ = oI (fol cd k 2) by unfold fol nx0 nx1; rw [hop, hi0]; dsimp only; simp [oI, nI_1]; try rfl), rfl, rfl, rfl, rfl, rfl⟩
  · rcases (show q = 0 ∨ q = 1 ∨ q = 2 by omega) with rfl | rfl | rfl
    · skip
      refine v_aload_n G (decAt dd_RC_follows 0 rfl) rfl ?_
      refine v_geta G (decAt dd_RC_follows 1 rfl) f_RC_13 ?_
      refine v_iload_n G (decAt dd_RC_follows 2 rfl) rfl ?_
      refine v_iald G 0 _ (decAt dd_RC_follows 3 rfl) (by decide) rfl (by first | with_reducible rfl | with_reducible exact nI_1 _ | with_reducible exact nI_add _ _ | assumption) (by omega) ?_
      refine v_ri (y := nI 19) hN1 ?_
      refine v_istore_3 G (decAt dd_RC_follows 4 rfl) (by decide) rfl ?_
      refine v_iload_n G (decAt dd_RC_follows 5 rfl) rfl ?_
      refine v_bipush G 16 (decAt dd_RC_follows 6 rfl) (by decide) ?_
      refine v_icmp_eq G 24 (decAt dd_RC_follows 7 rfl) (by decide) (fun c10 => absurd c10 (by decide)) (fun _ => ?_)
      refine v_iload_n G (decAt dd_RC_follows 8 rfl) rfl ?_
      refine v_bipush G 17 (decAt dd_RC_follows 9 rfl) (by decide) ?_
      refine v_icmp_eq G 24 (decAt dd_RC_follows 10 rfl) (by decide) (fun c16 => absurd c16 (by decide)) (fun _ => ?_)
      refine v_iload_n G (decAt dd_RC_follows 11 rfl) rfl ?_
      refine v_iconst G 1 (decAt dd_RC_follows 12 rfl) (by decide) ?_
      refine v_icmp_le G 26 (decAt dd_RC_follows 13 rfl) (by decide) (fun _ => ?_) (fun c21 => absurd c21 (by decide))
      refine v_iload_n G (decAt dd_RC_follows 16 rfl) rfl ?_
      refine v_bipush G 18 (decAt dd_RC_follows 17 rfl) (by decide) ?_
      refine v_icmp_ne G 56 (decAt dd_RC_follows 18 rfl) (by decide) (fun _ => ?_) (fun c29 => absurd c29 (by decide))
      refine v_iload_n G (decAt dd_RC_follows 35 rfl) rfl ?_
      refine v_bipush G 10 (decAt dd_RC_follows 36 rfl) (by decide) ?_
      refine v_icmp_ne G 82 (decAt dd_RC_follows 37 rfl) (by decide) (fun _ => ?_) (fun c59 => absurd c59 (by decide))
      refine v_iload_n G (decAt dd_RC_follows 50 rfl) rfl ?_
      refine v_if_ne G 90 (decAt dd_RC_follows 51 rfl) (by decide) (fun c83 => absurd c83 (by decide)) (fun _ => ?_)
      refine v_iload_n G (decAt dd_RC_follows 52 rfl) rfl ?_
      refine v_iconst G 1 (decAt dd_RC_follows 53 rfl) (by decide) ?_
      refine v_iadd G (decAt dd_RC_follows 54 rfl) ?_
      exact v_iret G (decAt dd_RC_follows 55 rfl) rfl ⟨some_i (show _ = oI (fol cd k 0) by unfold fol nx0 nx1; rw [hop, hi0]; dsimp only; simp [oI, nI_1]; try rfl), rfl, rfl, rfl, rfl, rfl⟩
    · skip
      refine v_aload_n G (decAt dd_RC_follows 0 rfl) rfl ?_
      refine v_geta G (decAt dd_RC_follows 1 rfl) f_RC_13 ?_
      refine v_iload_n G (decAt dd_RC_follows 2 rfl) rfl ?_
      refine v_iald G 0 _ (decAt dd_RC_follows 3 rfl) (by decide) rfl (by first | with_reducible rfl | with_reducible exact nI_1 _ | with_reducible exact nI_add _ _ | assumption) (by omega) ?_
      refine v_ri (y := nI 19) hN1 ?_
      refine v_istore_3 G (decAt dd_RC_follows 4 rfl) (by decide) rfl ?_
      refine v_iload_n G (decAt dd_RC_follows 5 rfl) rfl ?_
      refine v_bipush G 16 (decAt dd_RC_follows 6 rfl) (by decide) ?_
      refine v_icmp_eq G 24 (decAt dd_RC_follows 7 rfl) (by decide) (fun c10 => absurd c10 (by decide)) (fun _ => ?_)
      refine v_iload_n G (decAt dd_RC_follows 8 rfl) rfl ?_
      refine v_bipush G 17 (decAt dd_RC_follows 9 rfl) (by decide) ?_
      refine v_icmp_eq G 24 (decAt dd_RC_follows 10 rfl) (by decide) (fun c16 => absurd c16 (by decide)) (fun _ => ?_)
      refine v_iload_n G (decAt dd_RC_follows 11 rfl) rfl ?_
      refine v_iconst G 1 (decAt dd_RC_follows 12 rfl) (by decide) ?_
      refine v_icmp_le G 26 (decAt dd_RC_follows 13 rfl) (by decide) (fun _ => ?_) (fun c21 => absurd c21 (by decide))
      refine v_iload_n G (decAt dd_RC_follows 16 rfl) rfl ?_
      refine v_bipush G 18 (decAt dd_RC_follows 17 rfl) (by decide) ?_
      refine v_icmp_ne G 56 (decAt dd_RC_follows 18 rfl) (by decide) (fun _ => ?_) (fun c29 => absurd c29 (by decide))
      refine v_iload_n G (decAt dd_RC_follows 35 rfl) rfl ?_
      refine v_bipush G 10 (decAt dd_RC_follows 36 rfl) (by decide) ?_
      refine v_icmp_ne G 82 (decAt dd_RC_follows 37 rfl) (by decide) (fun _ => ?_) (fun c59 => absurd c59 (by decide))
      refine v_iload_n G (decAt dd_RC_follows 50 rfl) rfl ?_
      refine v_if_ne G 90 (decAt dd_RC_follows 51 rfl) (by decide) (fun _ => ?_) (fun c83 => absurd c83 (by decide))
      refine v_iload_n G (decAt dd_RC_follows 56 rfl) rfl ?_
      refine v_bipush G 11 (decAt dd_RC_follows 57 rfl) (by decide) ?_
      refine v_icmp_eq G 102 (decAt dd_RC_follows 58 rfl) (by decide) (fun c93 => absurd c93 (by decide)) (fun _ => ?_)
      refine v_iload_n G (decAt dd_RC_follows 59 rfl) rfl ?_
      refine v_bipush G 12 (decAt dd_RC_follows 60 rfl) (by decide) ?_
      refine v_icmp_ne G 116 (decAt dd_RC_follows 61 rfl) (by decide) (fun _ => ?_) (fun c99 => absurd c99 (by decide))
      refine v_iconst G (-1) (decAt dd_RC_follows 70 rfl) (by decide) ?_
      exact v_iret G (decAt dd_RC_follows 71 rfl) rfl ⟨some_i (show _ = oI (fol cd k 1) by unfold fol nx0 nx1; rw [hop, hi0]; dsimp only; simp [oI, nI_1]; try rfl), rfl, rfl, rfl, rfl, rfl⟩
    · skip
      refine v_aload_n G (decAt dd_RC_follows 0 rfl) rfl ?_
      refine v_geta G (decAt dd_RC_follows 1 rfl) f_RC_13 ?_
      refine v_iload_n G (decAt dd_RC_follows 2 rfl) rfl ?_
      refine v_iald G 0 _ (decAt dd_RC_follows 3 rfl) (by decide) rfl (by first | with_reducible rfl | with_reducible exact nI_1 _ | with_reducible exact nI_add _ _ | assumption) (by omega) ?_
      refine v_ri (y := nI 19) hN1 ?_
      refine v_istore_3 G (decAt dd_RC_follows 4 rfl) (by decide) rfl ?_
      refine v_iload_n G (decAt dd_RC_follows 5 rfl) rfl ?_
      refine v_bipush G 16 (decAt dd_RC_follows 6 rfl) (by decide) ?_
      refine v_icmp_eq G 24 (decAt dd_RC_follows 7 rfl) (by decide) (fun c10 => absurd c10 (by decide)) (fun _ => ?_)
      refine v_iload_n G (decAt dd_RC_follows 8 rfl) rfl ?_
      refine v_bipush G 17 (decAt dd_RC_follows 9 rfl) (by decide) ?_
      refine v_icmp_eq G 24 (decAt dd_RC_follows 10 rfl) (by decide) (fun c16 => absurd c16 (by decide)) (fun _ => ?_)
      refine v_iload_n G (decAt dd_RC_follows 11 rfl) rfl ?_
      refine v_iconst G 1 (decAt dd_RC_follows 12 rfl) (by decide) ?_
      refine v_icmp_le G 26 (decAt dd_RC_follows 13 rfl) (by decide) (fun c21 => absurd c21 (by decide)) (fun _ => ?_)
      refine v_iconst G (-1) (decAt dd_RC_follows 14 rfl) (by decide) ?_
      exact v_iret G (decAt dd_RC_follows 15 rfl) rfl ⟨some_i (show _ = oI (fol cd k 2) by unfold fol nx0 nx1; rw [hop, hi0]; dsimp only; simp [oI, nI_1]; try rfl), rfl, rfl, rfl, rfl, rfl⟩
  · rcases (show q = 0 ∨ q = 1 ∨ q = 2 by omega) with rfl | rfl | rfl
    · skip
      refine v_aload_n G (decAt dd_RC_follows 0 rfl) rfl ?_
      refine v_geta G (decAt dd_RC_follows 1 rfl) f_RC_13 ?_
      refine v_iload_n G (decAt dd_RC_follows 2 rfl) rfl ?_
      refine v_iald G 0 _ (decAt dd_RC_follows 3 rfl) (by decide) rfl (by first | with_reducible rfl | with_reducible exact nI_1 _ | with_reducible exact nI_add _ _ | assumption) (by omega) ?_
      refine v_ri (y := nI 20) hN1 ?_
      refine v_istore_3 G (decAt dd_RC_follows 4 rfl) (by decide) rfl ?_
      refine v_iload_n G (decAt dd_RC_follows 5 rfl) rfl ?_
      refine v_bipush G 16 (decAt dd_RC_follows 6 rfl) (by decide) ?_
      refine v_icmp_eq G 24 (decAt dd_RC_follows 7 rfl) (by decide) (fun c10 => absurd c10 (by decide)) (fun _ => ?_)
      refine v_iload_n G (decAt dd_RC_follows 8 rfl) rfl ?_
      refine v_bipush G 17 (decAt dd_RC_follows 9 rfl) (by decide) ?_
      refine v_icmp_eq G 24 (decAt dd_RC_follows 10 rfl) (by decide) (fun c16 => absurd c16 (by decide)) (fun _ => ?_)
      refine v_iload_n G (decAt dd_RC_follows 11 rfl) rfl ?_
      refine v_iconst G 1 (decAt dd_RC_follows 12 rfl) (by decide) ?_
      refine v_icmp_le G 26 (decAt dd_RC_follows 13 rfl) (by decide) (fun _ => ?_) (fun c21 => absurd c21 (by decide))
      refine v_iload_n G (decAt dd_RC_follows 16 rfl) rfl ?_
      refine v_bipush G 18 (decAt dd_RC_follows 17 rfl) (by decide) ?_
      refine v_icmp_ne G 56 (decAt dd_RC_follows 18 rfl) (by decide) (fun _ => ?_) (fun c29 => absurd c29 (by decide))
      refine v_iload_n G (decAt dd_RC_follows 35 rfl) rfl ?_
      refine v_bipush G 10 (decAt dd_RC_follows 36 rfl) (by decide) ?_
      refine v_icmp_ne G 82 (decAt dd_RC_follows 37 rfl) (by decide) (fun _ => ?_) (fun c59 => absurd c59 (by decide))
      refine v_iload_n G (decAt dd_RC_follows 50 rfl) rfl ?_
      refine v_if_ne G 90 (decAt dd_RC_follows 51 rfl) (by decide) (fun c83 => absurd c83 (by decide)) (fun _ => ?_)
      refine v_iload_n G (decAt dd_RC_follows 52 rfl) rfl ?_
      refine v_iconst G 1 (decAt dd_RC_follows 53 rfl) (by decide) ?_
      refine v_iadd G (decAt dd_RC_follows 54 rfl) ?_
      exact v_iret G (decAt dd_RC_follows 55 rfl) rfl ⟨some_i (show _ = oI (fol cd k 0) by unfold fol nx0 nx1; rw [hop, hi0]; dsimp only; simp [oI, nI_1]; try rfl), rfl, rfl, rfl, rfl, rfl⟩
    · skip
      refine v_aload_n G (decAt dd_RC_follows 0 rfl) rfl ?_
      refine v_geta G (decAt dd_RC_follows 1 rfl) f_RC_13 ?_
      refine v_iload_n G (decAt dd_RC_follows 2 rfl) rfl ?_
      refine v_iald G 0 _ (decAt dd_RC_follows 3 rfl) (by decide) rfl (by first | with_reducible rfl | with_reducible exact nI_1 _ | with_reducible exact nI_add _ _ | assumption) (by omega) ?_
      refine v_ri (y := nI 20) hN1 ?_
      refine v_istore_3 G (decAt dd_RC_follows 4 rfl) (by decide) rfl ?_
      refine v_iload_n G (decAt dd_RC_follows 5 rfl) rfl ?_
      refine v_bipush G 16 (decAt dd_RC_follows 6 rfl) (by decide) ?_
      refine v_icmp_eq G 24 (decAt dd_RC_follows 7 rfl) (by decide) (fun c10 => absurd c10 (by decide)) (fun _ => ?_)
      refine v_iload_n G (decAt dd_RC_follows 8 rfl) rfl ?_
      refine v_bipush G 17 (decAt dd_RC_follows 9 rfl) (by decide) ?_
      refine v_icmp_eq G 24 (decAt dd_RC_follows 10 rfl) (by decide) (fun c16 => absurd c16 (by decide)) (fun _ => ?_)
      refine v_iload_n G (decAt dd_RC_follows 11 rfl) rfl ?_
      refine v_iconst G 1 (decAt dd_RC_follows 12 rfl) (by decide) ?_
      refine v_icmp_le G 26 (decAt dd_RC_follows 13 rfl) (by decide) (fun _ => ?_) (fun c21 => absurd c21 (by decide))
      refine v_iload_n G (decAt dd_RC_follows 16 rfl) rfl ?_
      refine v_bipush G 18 (decAt dd_RC_follows 17 rfl) (by decide) ?_
      refine v_icmp_ne G 56 (decAt dd_RC_follows 18 rfl) (by decide) (fun _ => ?_) (fun c29 => absurd c29 (by decide))
      refine v_iload_n G (decAt dd_RC_follows 35 rfl) rfl ?_
      refine v_bipush G 10 (decAt dd_RC_follows 36 rfl) (by decide) ?_
      refine v_icmp_ne G 82 (decAt dd_RC_follows 37 rfl) (by decide) (fun _ => ?_) (fun c59 => absurd c59 (by decide))
      refine v_iload_n G (decAt dd_RC_follows 50 rfl) rfl ?_
      refine v_if_ne G 90 (decAt dd_RC_follows 51 rfl) (by decide) (fun _ => ?_) (fun c83 => absurd c83 (by decide))
      refine v_iload_n G (decAt dd_RC_follows 56 rfl) rfl ?_
      refine v_bipush G 11 (decAt dd_RC_follows 57 rfl) (by decide) ?_
      refine v_icmp_eq G 102 (decAt dd_RC_follows 58 rfl) (by decide) (fun c93 => absurd c93 (by decide)) (fun _ => ?_)
      refine v_iload_n G (decAt dd_RC_follows 59 rfl) rfl ?_
      refine v_bipush G 12 (decAt dd_RC_follows 60 rfl) (by decide) ?_
      refine v_icmp_ne G 116 (decAt dd_RC_follows 61 rfl) (by decide) (fun _ => ?_) (fun c99 => absurd c99 (by decide))
      refine v_iconst G (-1) (decAt dd_RC_follows 70 rfl) (by decide) ?_
      exact v_iret G (decAt dd_RC_follows 71 rfl) rfl ⟨some_i (show _ = oI (fol cd k 1) by unfold fol nx0 nx1; rw [hop, hi0]; dsimp only; simp [oI, nI_1]; try rfl), rfl, rfl, rfl, rfl, rfl⟩
    · skip
      refine v_aload_n G (decAt dd_RC_follows 0 rfl) rfl ?_
      refine v_geta G (decAt dd_RC_follows 1 rfl) f_RC_13 ?_
      refine v_iload_n G (decAt dd_RC_follows 2 rfl) rfl ?_
      refine v_iald G 0 _ (decAt dd_RC_follows 3 rfl) (by decide) rfl (by first | with_reducible rfl | with_reducible exact nI_1 _ | with_reducible exact nI_add _ _ | assumption) (by omega) ?_
      refine v_ri (y := nI 20) hN1 ?_
      refine v_istore_3 G (decAt dd_RC_follows 4 rfl) (by decide) rfl ?_
      refine v_iload_n G (decAt dd_RC_follows 5 rfl) rfl ?_
      refine v_bipush G 16 (decAt dd_RC_follows 6 rfl) (by decide) ?_
      refine v_icmp_eq G 24 (decAt dd_RC_follows 7 rfl) (by decide) (fun c10 => absurd c10 (by decide)) (fun _ => ?_)
      refine v_iload_n G (decAt dd_RC_follows 8 rfl) rfl ?_
      refine v_bipush G 17 (decAt dd_RC_follows 9 rfl) (by decide) ?_
      refine v_icmp_eq G 24 (decAt dd_RC_follows 10 rfl) (by decide) (fun c16 => absurd c16 (by decide)) (fun _ => ?_)
      refine v_iload_n G (decAt dd_RC_follows 11 rfl) rfl ?_
      refine v_iconst G 1 (decAt dd_RC_follows 12 rfl) (by decide) ?_
      refine v_icmp_le G 26 (decAt dd_RC_follows 13 rfl) (by decide) (fun c21 => absurd c21 (by decide)) (fun _ => ?_)
      refine v_iconst G (-1) (decAt dd_RC_follows 14 rfl) (by decide) ?_
      exact v_iret G (decAt dd_RC_follows 15 rfl) rfl ⟨some_i (show _ = oI (fol cd k 2) by unfold fol nx0 nx1; rw [hop, hi0]; dsimp only; simp [oI, nI_1]; try rfl), rfl, rfl, rfl, rfl, rfl⟩
