/-! copies of terms: x -/
theorem cX_of {h : AH} {T : Int} : ∀ {R : TR} {d j p : Int}, (∀ m : Nat, (m : Int) < nk R → h (T + 5) (3 * d + (j + m)) = p + kss sz R m ∧ cX h T (kdA R m) (p + kss sz R m) 0 (p + kss sz R m + 1)) → (h (T + 1) d = (inf R).1 ∧ h (T + 2) d = (inf R).2.1 ∧ h (T + 3) d = (inf R).2.2.1) → (∀ k, 0 ≤ k → j + nk R ≤ k → k < 3 → h (T + 5) (3 * d + k) = -1) → 0 ≤ j → j + nk R ≤ 3 → cX h T R d j p
  | .leaf i, d, j, p, _, c, n, j0, _ => ⟨c.1, c.2.1, c.2.2, fun k k0 k1 k2 => n k k0 (by show j + 0 ≤ k; omega) k2⟩
  | .branch b s r, d, j, p, K, c, n, j0, j3 => by
    have e : nk (.branch b s r) = nk r + 1 := rfl
    have n0 := nk_0 r
    have k0 := K 0 (by omega)
    have e0 : kss sz (.branch b s r) 0 = 0 := rfl
    rw [e0, show j + ((0 : Nat) : Int) = j from Int.add_zero j, Int.add_zero] at k0
    refine ⟨j0, by omega, k0.1, k0.2, cX_of (fun m ml => ?_) c (fun k k0 k1 k2 => n k k0 (by omega) k2) (by omega) (by omega)⟩
    have km := K (m + 1) (by omega)
    rw [kss_br, show j + ((m + 1 : Nat) : Int) = j + 1 + (m : Int) by omega, show p + (sz s + kss sz r m) = p + sz s + kss sz r m by omega] at km
    exact km
def frC (T N n : Int) (h h' : AH) : Prop := ∀ a s, ¬ (a = T ∧ s = 0) → ¬ (T + 1 ≤ a ∧ a ≤ T + 4 ∧ N ≤ s ∧ s < N + n) → ¬ (a = T + 5 ∧ 3 * N ≤ s ∧ s < 3 * (N + n)) → h' a s = h a s
/-- a copy is made: of what is told by g at each node -/
def poC (T : Int) (R : TR) (h : AH) (v : Int) (h' : AH) : Prop := v = h T 0 ∧ h' T 0 = h T 0 + sz R ∧ cX h' T R v 0 (v + 1) ∧ frC T (h T 0) (sz R) h h'
/-- on the way through the operands -/
def ivC (T N : Int) (R : TR) (h0 : AH) (k : Nat) (h : AH) : Prop := h T 0 = N + 1 + kss sz R k ∧ (∀ m : Nat, m < k → (m : Int) < nk R → h (T + 5) (3 * N + m) = N + 1 + kss sz R m ∧ cX h T (kdA R m) (N + 1 + kss sz R m) 0 (N + 1 + kss sz R m + 1)) ∧ (∀ m : Int, 0 ≤ m → (m < (k : Int) → nk R ≤ m) → m < 3 → h (T + 5) (3 * N + m) = -1) ∧ (h (T + 1) N = (inf R).1 ∧ h (T + 2) N = (inf R).2.1 ∧ h (T + 3) N = (inf R).2.2.1) ∧ (∀ a s, ¬ (a = T ∧ s = 0) → ¬ (T + 1 ≤ a ∧ a ≤ T + 4 ∧ N ≤ s ∧ s < N + 1 + kss sz R k) → ¬ (a = T + 5 ∧ 3 * N ≤ s ∧ s < 3 * (N + 1 + kss sz R k)) → h a s = h0 a s)
theorem kss_s {g : TR → Int} {R : TR} {k : Nat} (l : (k : Int) < nk R) : kss g R (k + 1) = kss g R k + g (kdA R k) := by show kss g R k + (if (k : Int) < nk R then _ else 0) = _; rw [if_pos l]
theorem kss_n {g : TR → Int} {R : TR} {k : Nat} (l : ¬ (k : Int) < nk R) : kss g R (k + 1) = kss g R k := by show kss g R k + (if (k : Int) < nk R then _ else 0) = _; rw [if_neg l]; omega
theorem sz_0 : ∀ R : TR, 0 ≤ sz R := fun R => by have := sz_pos R; omega
theorem ivC_no {T N : Int} {R : TR} {h0 h : AH} {k : Nat} (i : ivC T N R h0 k h) (l : ¬ (k : Int) < nk R) : ivC T N R h0 (k + 1) h := by
  obtain ⟨i1, i2, i3, i4, i5⟩ := i
  have e := kss_n (g := sz) l
  refine ⟨by rw [e]; exact i1, fun m m1 m2 => i2 m (by omega) m2, fun m m0 m1 m2 => i3 m m0 (fun y => m1 (by omega)) m2, i4, by rw [e]; exact i5⟩
theorem ivC_st {T N v : Int} {R : TR} {h0 h h1 h2 : AH} {k : Nat} (i : ivC T N R h0 k h) (l : (k : Int) < nk R) (k3 : (k : Int) < 3) (p : poC T (kdA R k) h v h1) (j1 : h2 (T + 5) (3 * N + k) = v) (j2 : ∀ a s, ¬ (a = T + 5 ∧ s = 3 * N + k) → h2 a s = h1 a s) : ivC T N R h0 (k + 1) h2 := by
  obtain ⟨i1, i2, i3, i4, i5⟩ := i
  obtain ⟨p1, p2, p3, p4⟩ := p
  have e := kss_s (g := sz) l
  have z0 := kss_0 sz_0 R k
  have sp := sz_pos (kdA R k)
  rw [i1] at p1 p2 p4
  have F : ∀ a s, ¬ (a = T ∧ s = 0) → ¬ (T + 1 ≤ a ∧ a ≤ T + 4 ∧ N + 1 + kss sz R k ≤ s ∧ s < N + 1 + kss sz R k + sz (kdA R k)) → ¬ (a = T + 5 ∧ 3 * (N + 1 + kss sz R k) ≤ s ∧ s < 3 * (N + 1 + kss sz R k + sz (kdA R k))) → ¬ (a = T + 5 ∧ s = 3 * N + k) → h2 a s = h a s := fun a s y1 y2 y3 y4 => by rw [j2 a s y4]; exact p4 a s y1 y2 y3
  refine ⟨by rw [j2 _ _ (by omega), p2, e]; omega, fun m m1 m2 => ?_, fun m m0 m1 m2 => ?_, ?_, fun a s y1 y2 y3 => ?_⟩
  · by_cases y : m = k
    · subst y
      refine ⟨by rw [j1, p1], ?_⟩
      rw [p1] at p3
      exact cX_fr (h := h1) (lo := N + 1 + kss sz R m) (hi := N + 1 + kss sz R m + sz (kdA R m)) (fun a s a0 a1 s0 s1 => j2 _ _ (by omega)) (fun s s0 s1 => j2 _ _ (by omega)) p3 (Int.le_refl _) (Int.le_refl _) (by omega) (by omega) (by omega)
    · have q := i2 m (by omega) m2
      have le := kss_le sz_0 R (k := m + 1) k (by omega)
      have em := kss_s (g := sz) m2
      have zm := kss_0 sz_0 R m
      have sm := sz_pos (kdA R m)
      refine ⟨by rw [F _ _ (by omega) (by omega) (by omega) (by omega)]; exact q.1, ?_⟩
      exact cX_fr (h := h) (lo := N + 1 + kss sz R m) (hi := N + 1 + kss sz R m + sz (kdA R m)) (fun a s a0 a1 s0 s1 => F _ _ (by omega) (by omega) (by omega) (by omega)) (fun s s0 s1 => F _ _ (by omega) (by omega) (by omega) (by omega)) q.2 (Int.le_refl _) (Int.le_refl _) (by omega) (by omega) (by omega)
  · have mk : m ≠ k := fun y => by have := m1 (by omega); omega
    rw [F _ _ (by omega) (by omega) (by omega) (by omega)]
    exact i3 m m0 (fun y => m1 (by omega)) m2
  · rw [F _ _ (by omega) (by omega) (by omega) (by omega), F _ _ (by omega) (by omega) (by omega) (by omega), F _ _ (by omega) (by omega) (by omega) (by omega)]; exact i4
  · rw [e] at y2 y3
    rw [F a s y1 (by omega) (by omega) (by omega)]
    exact i5 a s y1 (by omega) (by omega)
theorem ivC_end {T N : Int} {R : TR} {h0 h : AH} (n3 : nk R ≤ 3) (i : ivC T N R h0 3 h) : h T 0 = N + sz R ∧ cX h T R N 0 (N + 1) ∧ frC T N (sz R) h0 h := by
  obtain ⟨i1, i2, i3, i4, i5⟩ := i
  have k3 := kss_sz R 3 (by omega)
  refine ⟨by omega, cX_of (fun m ml => ?_) i4 (fun k k0 k1 k2 => i3 k k0 (fun _ => by omega) k2) (Int.le_refl _) (by omega), fun a s y1 y2 y3 => i5 a s y1 (by omega) (by omega)⟩
  have q := i2 m (by omega) ml
  rw [Int.zero_add]
  exact q
def dsj (T0 T1 : Int) : Prop := T0 + 5 < T1 ∨ T1 + 5 < T0
def CCX (F : Int → Int → Int → AH → Option (Int × AH)) (T0 T1 M0 M1 k : Int) : Prop := ∀ (d : Int) (h : AH) (R : TR), capT h T0 M0 → capT h T1 M1 → trX h T1 0 M1 R d 0 → (0 ≤ h T0 0 ∧ h T0 0 + sz R ≤ M0) → dpT R + 1 ≤ k → OK (F T0 T1 d h) (fun r => jt2 r fun v h' => poC T0 R h v h')
theorem vX3_copy_l32 {F : Int → Int → Int → AH → Option (Int × AH)} (i0 : Int) (i1 : Int) (i2 : Int) (i3 : Int) (a40 : Int) {h0 : AH} {M0 M1 k : Int} {R : TR} {hb : AH} (hF : CCX F i0 i1 M0 M1 k) (dj : dsj i0 i1) (c0 : capT h0 i0 M0) (c1 : capT h0 i1 M1) (t : trX h0 i1 0 M1 R i2 0) (n : 0 ≤ i3 ∧ i3 + sz R ≤ M0) (dk : dpT R + 1 ≤ k + 1) (z : a40 = 0) (b : ivC i0 i3 R hb 0 h0) : OK (gX3_copy_l32 F i0 i1 i2 i3 a40 h0) (fun h' => ivC i0 i3 R hb 3 h') := by
  unfold gX3_copy_l32
  refine OK_jit (I := (fun (s : Int × AH) => jt2 s fun a4 h => (0 ≤ a4 ∧ a4 ≤ 3) ∧ (ivC i0 i3 R hb a4.toNat h) ∧ (∀ a s, ¬ (i0 ≤ a ∧ a ≤ i0 + 5 ∧ 0 ≤ s) → h a s = h0 a s))) (m := (fun (s : Int × AH) => jt2 s fun a4 h => (3 - a4).toNat)) ?_ ?_
  · intro s hs
    obtain ⟨a4, h⟩ := s
    dsimp only [Sum.elim_inl, Sum.elim_inr, jt2, jt3, jt4, jt5, jt6, jt7, jt8] at hs
    obtain ⟨q0, q1, q2⟩ := hs
    unfold gX3_copy_b32
    refine OK_jt2 ?_
    have DJ : i0 + 5 < i1 ∨ i1 + 5 < i0 := dj
    have C0 := capT_fr (h' := h) c0 (fun a a0 a1 => q2 _ _ (by omega))
    have C1 := capT_fr (h' := h) c1 (fun a a0 a1 => q2 _ _ (by omega))
    have T' := trX_fr (h' := h) (fun a s a0 a1 _ _ => q2 _ _ (by omega)) (fun s _ _ => q2 _ _ (by omega)) t (Int.le_refl 0)
    have nd := trX_nd T'
    have n3 := n3T_nk (trX_n3 t (by decide) (by decide))
    have no := trX_no T' a4 q0.1
    have ea : ((a4.toNat : Nat) : Int) = a4 := by omega
    have hT := q1.1
    have k0 := kss_0 sz_0 R a4.toNat
    refine OK_if (fun c1 => ?_) (fun c1 => ?_)
    · skip
      try simp (disch := omega) only [jst_eq, jst_ne, jst_ni, jI_i, jcmp_lt, jcmp_gt, w32_id, jcpy_out, Sum.elim_inl, Sum.elim_inr, jt2, jt3, jt4, jt5, jt6, jt7, jt8] at c1
      refine OK_ir ?_
      (rw [show a4.toNat = 3 by omega] at q1; exact q1) -- o1 e1
    · skip
      try simp (disch := omega) only [jst_eq, jst_ne, jst_ni, jI_i, jcmp_lt, jcmp_gt, w32_id, jcpy_out, Sum.elim_inl, Sum.elim_inr, jt2, jt3, jt4, jt5, jt6, jt7, jt8] at c1
      refine OK_jb (vX3_part (M := M1) _ _ _ (by (first | assumption | omega | ((try dsimp only [jt2, jt3, jt4]); first | omega | (simp (disch := omega) only [jst_eq, jst_ne, jst_ni, jst_o, jI_i, jcpy_out, w32_id, jdiv_nn, jshr_k, jand_255] <;> first | done | omega | assumption)) | (intros; simp (disch := omega) only [jst_eq, jst_ne, jst_ni, jst_o, jI_i, jcpy_out, w32_id, jdiv_nn, *] <;> first | done | omega) | (intros; simp (disch := omega) only [jst_eq, jst_ne, jst_ni, jst_o, jI_i, jcpy_out, w32_id, jdiv_nn] at * <;> first | done | omega | assumption) | (intros; first | rfl | (exfalso; omega) | ((repeat' apply And.intro) <;> first | assumption | rfl | omega | trivial)))) (by (first | assumption | omega | ((try dsimp only [jt2, jt3, jt4]); first | omega | (simp (disch := omega) only [jst_eq, jst_ne, jst_ni, jst_o, jI_i, jcpy_out, w32_id, jdiv_nn, jshr_k, jand_255] <;> first | done | omega | assumption)) | (intros; simp (disch := omega) only [jst_eq, jst_ne, jst_ni, jst_o, jI_i, jcpy_out, w32_id, jdiv_nn, *] <;> first | done | omega) | (intros; simp (disch := omega) only [jst_eq, jst_ne, jst_ni, jst_o, jI_i, jcpy_out, w32_id, jdiv_nn] at * <;> first | done | omega | assumption) | (intros; first | rfl | (exfalso; omega) | ((repeat' apply And.intro) <;> first | assumption | rfl | omega | trivial))))) (fun v8 r1 => ?_)
      try dsimp only [Sum.elim_inl, Sum.elim_inr, jt2, jt3, jt4, jt5, jt6, jt7, jt8] at r1
      have v1 := r1
      clear r1
      try simp (disch := omega) only [jst_eq, jst_ne, jst_ni, jI_i, jcmp_lt, jcmp_gt, w32_id, jcpy_out, Sum.elim_inl, Sum.elim_inr, jt2, jt3, jt4, jt5, jt6, jt7, jt8] at v1
      rw [if_neg (by omega)] at v1
      refine OK_if (fun c2 => ?_) (fun c2 => ?_)
      · skip
        try simp (disch := omega) only [jst_eq, jst_ne, jst_ni, jI_i, jcmp_lt, jcmp_gt, w32_id, jcpy_out, Sum.elim_inl, Sum.elim_inr, jt2, jt3, jt4, jt5, jt6, jt7, jt8] at c2
        have lk : ¬ ((a4.toNat : Nat) : Int) < nk R := fun y => by { have q := (trX_nd (trX_kd a4.toNat T' y)).1; rw [ea, Int.zero_add] at q; omega }
        unfold gX3_copy_j67_32
        refine OK_jlx (fun x17 ex17 => ?_)
        try simp (disch := omega) only [jst_eq, jst_ne, jst_ni, jI_i, jcmp_lt, jcmp_gt, w32_id, jcpy_out, Sum.elim_inl, Sum.elim_inr, jt2, jt3, jt4, jt5, jt6, jt7, jt8] at ex17
        have e17 : x17.toNat = a4.toNat + 1 := by omega
        refine OK_il ?_ ?_
        · try dsimp only [Sum.elim_inl, Sum.elim_inr, jt2, jt3, jt4, jt5, jt6, jt7, jt8]
          refine ⟨?_, ?_, ?_⟩
          · (first | assumption | omega | ((try dsimp only [jt2, jt3, jt4]); first | omega | (simp (disch := omega) only [jst_eq, jst_ne, jst_ni, jst_o, jI_i, jcpy_out, w32_id, jdiv_nn, jshr_k, jand_255] <;> first | done | omega | assumption)) | (intros; simp (disch := omega) only [jst_eq, jst_ne, jst_ni, jst_o, jI_i, jcpy_out, w32_id, jdiv_nn, *] <;> first | done | omega) | (intros; simp (disch := omega) only [jst_eq, jst_ne, jst_ni, jst_o, jI_i, jcpy_out, w32_id, jdiv_nn] at * <;> first | done | omega | assumption) | (intros; first | rfl | (exfalso; omega) | ((repeat' apply And.intro) <;> first | assumption | rfl | omega | trivial))) -- o4 e2i.1
          · (rw [e17]; exact ivC_no q1 lk) -- o5 e2i.2
          · (first | assumption | omega | ((try dsimp only [jt2, jt3, jt4]); first | omega | (simp (disch := omega) only [jst_eq, jst_ne, jst_ni, jst_o, jI_i, jcpy_out, w32_id, jdiv_nn, jshr_k, jand_255] <;> first | done | omega | assumption)) | (intros; simp (disch := omega) only [jst_eq, jst_ne, jst_ni, jst_o, jI_i, jcpy_out, w32_id, jdiv_nn, *] <;> first | done | omega) | (intros; simp (disch := omega) only [jst_eq, jst_ne, jst_ni, jst_o, jI_i, jcpy_out, w32_id, jdiv_nn] at * <;> first | done | omega | assumption) | (intros; first | rfl | (exfalso; omega) | ((repeat' apply And.intro) <;> first | assumption | rfl | omega | trivial))) -- o6 e2i.3
        · (first | assumption | omega | ((try dsimp only [jt2, jt3, jt4]); first | omega | (simp (disch := omega) only [jst_eq, jst_ne, jst_ni, jst_o, jI_i, jcpy_out, w32_id, jdiv_nn, jshr_k, jand_255] <;> first | done | omega | assumption)) | (intros; simp (disch := omega) only [jst_eq, jst_ne, jst_ni, jst_o, jI_i, jcpy_out, w32_id, jdiv_nn, *] <;> first | done | omega) | (intros; simp (disch := omega) only [jst_eq, jst_ne, jst_ni, jst_o, jI_i, jcpy_out, w32_id, jdiv_nn] at * <;> first | done | omega | assumption) | (intros; first | rfl | (exfalso; omega) | ((repeat' apply And.intro) <;> first | assumption | rfl | omega | trivial))) -- o7 e2m
      · skip
        try simp (disch := omega) only [jst_eq, jst_ne, jst_ni, jI_i, jcmp_lt, jcmp_gt, w32_id, jcpy_out, Sum.elim_inl, Sum.elim_inr, jt2, jt3, jt4, jt5, jt6, jt7, jt8] at c2
        have lk : ((a4.toNat : Nat) : Int) < nk R := Classical.byContradiction fun y => by { have := no (by omega) (by omega); omega }
        have kt := trX_kd a4.toNat T' lk
        have kd := dpT_kd R a4.toNat lk
        rw [ea, Int.zero_add] at kt
        have ks := kss_s (g := sz) lk
        have kl := kss_le sz_0 R (k := a4.toNat + 1) 3 (by omega)
        have k3 := kss_sz R 3 (by omega)
        refine OK_jb (vX3_part (M := M1) _ _ _ (by (first | assumption | omega | ((try dsimp only [jt2, jt3, jt4]); first | omega | (simp (disch := omega) only [jst_eq, jst_ne, jst_ni, jst_o, jI_i, jcpy_out, w32_id, jdiv_nn, jshr_k, jand_255] <;> first | done | omega | assumption)) | (intros; simp (disch := omega) only [jst_eq, jst_ne, jst_ni, jst_o, jI_i, jcpy_out, w32_id, jdiv_nn, *] <;> first | done | omega) | (intros; simp (disch := omega) only [jst_eq, jst_ne, jst_ni, jst_o, jI_i, jcpy_out, w32_id, jdiv_nn] at * <;> first | done | omega | assumption) | (intros; first | rfl | (exfalso; omega) | ((repeat' apply And.intro) <;> first | assumption | rfl | omega | trivial)))) (by (first | assumption | omega | ((try dsimp only [jt2, jt3, jt4]); first | omega | (simp (disch := omega) only [jst_eq, jst_ne, jst_ni, jst_o, jI_i, jcpy_out, w32_id, jdiv_nn, jshr_k, jand_255] <;> first | done | omega | assumption)) | (intros; simp (disch := omega) only [jst_eq, jst_ne, jst_ni, jst_o, jI_i, jcpy_out, w32_id, jdiv_nn, *] <;> first | done | omega) | (intros; simp (disch := omega) only [jst_eq, jst_ne, jst_ni, jst_o, jI_i, jcpy_out, w32_id, jdiv_nn] at * <;> first | done | omega | assumption) | (intros; first | rfl | (exfalso; omega) | ((repeat' apply And.intro) <;> first | assumption | rfl | omega | trivial))))) (fun v11 r2 => ?_)
        try dsimp only [Sum.elim_inl, Sum.elim_inr, jt2, jt3, jt4, jt5, jt6, jt7, jt8] at r2
        have v2 := r2
        clear r2
        try simp (disch := omega) only [jst_eq, jst_ne, jst_ni, jI_i, jcmp_lt, jcmp_gt, w32_id, jcpy_out, Sum.elim_inl, Sum.elim_inr, jt2, jt3, jt4, jt5, jt6, jt7, jt8] at v2
        rw [if_neg (by omega)] at v2
        refine OK_jb2 (hF _ _ (kdA R a4.toNat) (by (first | assumption | omega | ((try dsimp only [jt2, jt3, jt4]); first | omega | (simp (disch := omega) only [jst_eq, jst_ne, jst_ni, jst_o, jI_i, jcpy_out, w32_id, jdiv_nn, jshr_k, jand_255] <;> first | done | omega | assumption)) | (intros; simp (disch := omega) only [jst_eq, jst_ne, jst_ni, jst_o, jI_i, jcpy_out, w32_id, jdiv_nn, *] <;> first | done | omega) | (intros; simp (disch := omega) only [jst_eq, jst_ne, jst_ni, jst_o, jI_i, jcpy_out, w32_id, jdiv_nn] at * <;> first | done | omega | assumption) | (intros; first | rfl | (exfalso; omega) | ((repeat' apply And.intro) <;> first | assumption | rfl | omega | trivial)))) (by (first | assumption | omega | ((try dsimp only [jt2, jt3, jt4]); first | omega | (simp (disch := omega) only [jst_eq, jst_ne, jst_ni, jst_o, jI_i, jcpy_out, w32_id, jdiv_nn, jshr_k, jand_255] <;> first | done | omega | assumption)) | (intros; simp (disch := omega) only [jst_eq, jst_ne, jst_ni, jst_o, jI_i, jcpy_out, w32_id, jdiv_nn, *] <;> first | done | omega) | (intros; simp (disch := omega) only [jst_eq, jst_ne, jst_ni, jst_o, jI_i, jcpy_out, w32_id, jdiv_nn] at * <;> first | done | omega | assumption) | (intros; first | rfl | (exfalso; omega) | ((repeat' apply And.intro) <;> first | assumption | rfl | omega | trivial)))) (by (rw [v2]; exact kt)) (by omega) (by omega)) (fun v13 h14 r3 => ?_)
        try dsimp only [Sum.elim_inl, Sum.elim_inr, jt2, jt3, jt4, jt5, jt6, jt7, jt8] at r3
        have po3 := r3
        clear r3
        try simp (disch := omega) only [jst_eq, jst_ne, jst_ni, jI_i, jcmp_lt, jcmp_gt, w32_id, jcpy_out, Sum.elim_inl, Sum.elim_inr, jt2, jt3, jt4, jt5, jt6, jt7, jt8] at po3
        have P2 := po3.2.2.2
        have sp := sz_pos (kdA R a4.toNat)
        have C14 := capT_fr (h' := h14) C0 (fun a a0 a1 => P2 _ _ (by omega) (by omega) (by omega))
        refine OK_jb (vX3_join (M := M0) _ _ _ _ (by (first | assumption | omega | ((try dsimp only [jt2, jt3, jt4]); first | omega | (simp (disch := omega) only [jst_eq, jst_ne, jst_ni, jst_o, jI_i, jcpy_out, w32_id, jdiv_nn, jshr_k, jand_255] <;> first | done | omega | assumption)) | (intros; simp (disch := omega) only [jst_eq, jst_ne, jst_ni, jst_o, jI_i, jcpy_out, w32_id, jdiv_nn, *] <;> first | done | omega) | (intros; simp (disch := omega) only [jst_eq, jst_ne, jst_ni, jst_o, jI_i, jcpy_out, w32_id, jdiv_nn] at * <;> first | done | omega | assumption) | (intros; first | rfl | (exfalso; omega) | ((repeat' apply And.intro) <;> first | assumption | rfl | omega | trivial)))) (by (first | assumption | omega | ((try dsimp only [jt2, jt3, jt4]); first | omega | (simp (disch := omega) only [jst_eq, jst_ne, jst_ni, jst_o, jI_i, jcpy_out, w32_id, jdiv_nn, jshr_k, jand_255] <;> first | done | omega | assumption)) | (intros; simp (disch := omega) only [jst_eq, jst_ne, jst_ni, jst_o, jI_i, jcpy_out, w32_id, jdiv_nn, *] <;> first | done | omega) | (intros; simp (disch := omega) only [jst_eq, jst_ne, jst_ni, jst_o, jI_i, jcpy_out, w32_id, jdiv_nn] at * <;> first | done | omega | assumption) | (intros; first | rfl | (exfalso; omega) | ((repeat' apply And.intro) <;> first | assumption | rfl | omega | trivial))))) (fun h16 r4 => ?_)
        try dsimp only [Sum.elim_inl, Sum.elim_inr, jt2, jt3, jt4, jt5, jt6, jt7, jt8] at r4
        obtain ⟨j4, fr4⟩ := r4
        try simp (disch := omega) only [jst_eq, jst_ne, jst_ni, jI_i, jcmp_lt, jcmp_gt, w32_id, jcpy_out, Sum.elim_inl, Sum.elim_inr, jt2, jt3, jt4, jt5, jt6, jt7, jt8] at j4
        try simp (disch := omega) only [jst_eq, jst_ne, jst_ni, jI_i, jcmp_lt, jcmp_gt, w32_id, jcpy_out, Sum.elim_inl, Sum.elim_inr, jt2, jt3, jt4, jt5, jt6, jt7, jt8] at fr4
        unfold gX3_copy_j67_32
        refine OK_jlx (fun x17 ex17 => ?_)
        try simp (disch := omega) only [jst_eq, jst_ne, jst_ni, jI_i, jcmp_lt, jcmp_gt, w32_id, jcpy_out, Sum.elim_inl, Sum.elim_inr, jt2, jt3, jt4, jt5, jt6, jt7, jt8] at ex17
        have e17 : x17.toNat = a4.toNat + 1 := by omega
        refine OK_il ?_ ?_
        · try dsimp only [Sum.elim_inl, Sum.elim_inr, jt2, jt3, jt4, jt5, jt6, jt7, jt8]
          refine ⟨?_, ?_, ?_⟩
          · (first | assumption | omega | ((try dsimp only [jt2, jt3, jt4]); first | omega | (simp (disch := omega) only [jst_eq, jst_ne, jst_ni, jst_o, jI_i, jcpy_out, w32_id, jdiv_nn, jshr_k, jand_255] <;> first | done | omega | assumption)) | (intros; simp (disch := omega) only [jst_eq, jst_ne, jst_ni, jst_o, jI_i, jcpy_out, w32_id, jdiv_nn, *] <;> first | done | omega) | (intros; simp (disch := omega) only [jst_eq, jst_ne, jst_ni, jst_o, jI_i, jcpy_out, w32_id, jdiv_nn] at * <;> first | done | omega | assumption) | (intros; first | rfl | (exfalso; omega) | ((repeat' apply And.intro) <;> first | assumption | rfl | omega | trivial))) -- o17 e3i.1
          · (rw [e17]; exact ivC_st q1 lk (by omega) po3 (by rw [ea]; exact j4 (by omega)) (fun a s y => fr4 a s (by omega))) -- o18 e3i.2
          · (intro a s y; rw [fr4 a s (by omega), P2 a s (by omega) (by omega) (by omega)]; exact q2 a s y) -- o19 e3i.3
        · (first | assumption | omega | ((try dsimp only [jt2, jt3, jt4]); first | omega | (simp (disch := omega) only [jst_eq, jst_ne, jst_ni, jst_o, jI_i, jcpy_out, w32_id, jdiv_nn, jshr_k, jand_255] <;> first | done | omega | assumption)) | (intros; simp (disch := omega) only [jst_eq, jst_ne, jst_ni, jst_o, jI_i, jcpy_out, w32_id, jdiv_nn, *] <;> first | done | omega) | (intros; simp (disch := omega) only [jst_eq, jst_ne, jst_ni, jst_o, jI_i, jcpy_out, w32_id, jdiv_nn] at * <;> first | done | omega | assumption) | (intros; first | rfl | (exfalso; omega) | ((repeat' apply And.intro) <;> first | assumption | rfl | omega | trivial))) -- o20 e3m
  · try dsimp only [Sum.elim_inl, Sum.elim_inr, jt2, jt3, jt4, jt5, jt6, jt7, jt8]
    refine ⟨?_, ?_, ?_⟩
    · (first | assumption | omega | ((try dsimp only [jt2, jt3, jt4]); first | omega | (simp (disch := omega) only [jst_eq, jst_ne, jst_ni, jst_o, jI_i, jcpy_out, w32_id, jdiv_nn, jshr_k, jand_255] <;> first | done | omega | assumption)) | (intros; simp (disch := omega) only [jst_eq, jst_ne, jst_ni, jst_o, jI_i, jcpy_out, w32_id, jdiv_nn, *] <;> first | done | omega) | (intros; simp (disch := omega) only [jst_eq, jst_ne, jst_ni, jst_o, jI_i, jcpy_out, w32_id, jdiv_nn] at * <;> first | done | omega | assumption) | (intros; first | rfl | (exfalso; omega) | ((repeat' apply And.intro) <;> first | assumption | rfl | omega | trivial))) -- o21 init.1
    · (rw [z]; exact b) -- o22 init.2
    · (first | assumption | omega | ((try dsimp only [jt2, jt3, jt4]); first | omega | (simp (disch := omega) only [jst_eq, jst_ne, jst_ni, jst_o, jI_i, jcpy_out, w32_id, jdiv_nn, jshr_k, jand_255] <;> first | done | omega | assumption)) | (intros; simp (disch := omega) only [jst_eq, jst_ne, jst_ni, jst_o, jI_i, jcpy_out, w32_id, jdiv_nn, *] <;> first | done | omega) | (intros; simp (disch := omega) only [jst_eq, jst_ne, jst_ni, jst_o, jI_i, jcpy_out, w32_id, jdiv_nn] at * <;> first | done | omega | assumption) | (intros; first | rfl | (exfalso; omega) | ((repeat' apply And.intro) <;> first | assumption | rfl | omega | trivial))) -- o23 init.3
theorem vX3_copy_ {F : Int → Int → Int → AH → Option (Int × AH)} (a0 : Int) (a1 : Int) (a2 : Int) {h : AH} {M0 M1 k : Int} {R : TR} (hF : CCX F a0 a1 M0 M1 k) (dj : dsj a0 a1) (c0 : capT h a0 M0) (c1 : capT h a1 M1) (t : trX h a1 0 M1 R a2 0) (n : 0 ≤ h a0 0 ∧ h a0 0 + sz R ≤ M0) (dk : dpT R + 1 ≤ k + 1) : OK (gX3_copy_ F a0 a1 a2 h) (fun r => jt2 r fun v h' => poC a0 R h v h') := by
  have nd := trX_nd t
  have sp := sz_pos R
  have DJ : a0 + 5 < a1 ∨ a1 + 5 < a0 := dj
  have n3 := n3T_nk (trX_n3 t (by decide) (by decide))
  have cN : h (a1 + 1) (-1) = M1 ∧ h (a1 + 2) (-1) = M1 ∧ h (a1 + 3) (-1) = M1 ∧ h (a1 + 4) (-1) = M1 := ⟨c1.1, c1.2.1, c1.2.2.1, c1.2.2.2.1⟩
  unfold gX3_copy_
  refine OK_jg (by (first | assumption | omega | ((try dsimp only [jt2, jt3, jt4]); first | omega | (simp (disch := omega) only [jst_eq, jst_ne, jst_ni, jst_o, jI_i, jcpy_out, w32_id, jdiv_nn, jshr_k, jand_255] <;> first | done | omega | assumption)) | (intros; simp (disch := omega) only [jst_eq, jst_ne, jst_ni, jst_o, jI_i, jcpy_out, w32_id, jdiv_nn, *] <;> first | done | omega) | (intros; simp (disch := omega) only [jst_eq, jst_ne, jst_ni, jst_o, jI_i, jcpy_out, w32_id, jdiv_nn] at * <;> first | done | omega | assumption) | (intros; first | rfl | (exfalso; omega) | ((repeat' apply And.intro) <;> first | assumption | rfl | omega | trivial)))) ?_ -- o1
  refine OK_jg (by (first | assumption | omega | ((try dsimp only [jt2, jt3, jt4]); first | omega | (simp (disch := omega) only [jst_eq, jst_ne, jst_ni, jst_o, jI_i, jcpy_out, w32_id, jdiv_nn, jshr_k, jand_255] <;> first | done | omega | assumption)) | (intros; simp (disch := omega) only [jst_eq, jst_ne, jst_ni, jst_o, jI_i, jcpy_out, w32_id, jdiv_nn, *] <;> first | done | omega) | (intros; simp (disch := omega) only [jst_eq, jst_ne, jst_ni, jst_o, jI_i, jcpy_out, w32_id, jdiv_nn] at * <;> first | done | omega | assumption) | (intros; first | rfl | (exfalso; omega) | ((repeat' apply And.intro) <;> first | assumption | rfl | omega | trivial)))) ?_ -- o2
  refine OK_jg (by (first | assumption | omega | ((try dsimp only [jt2, jt3, jt4]); first | omega | (simp (disch := omega) only [jst_eq, jst_ne, jst_ni, jst_o, jI_i, jcpy_out, w32_id, jdiv_nn, jshr_k, jand_255] <;> first | done | omega | assumption)) | (intros; simp (disch := omega) only [jst_eq, jst_ne, jst_ni, jst_o, jI_i, jcpy_out, w32_id, jdiv_nn, *] <;> first | done | omega) | (intros; simp (disch := omega) only [jst_eq, jst_ne, jst_ni, jst_o, jI_i, jcpy_out, w32_id, jdiv_nn] at * <;> first | done | omega | assumption) | (intros; first | rfl | (exfalso; omega) | ((repeat' apply And.intro) <;> first | assumption | rfl | omega | trivial)))) ?_ -- o3
  refine OK_jg (by (first | assumption | omega | ((try dsimp only [jt2, jt3, jt4]); first | omega | (simp (disch := omega) only [jst_eq, jst_ne, jst_ni, jst_o, jI_i, jcpy_out, w32_id, jdiv_nn, jshr_k, jand_255] <;> first | done | omega | assumption)) | (intros; simp (disch := omega) only [jst_eq, jst_ne, jst_ni, jst_o, jI_i, jcpy_out, w32_id, jdiv_nn, *] <;> first | done | omega) | (intros; simp (disch := omega) only [jst_eq, jst_ne, jst_ni, jst_o, jI_i, jcpy_out, w32_id, jdiv_nn] at * <;> first | done | omega | assumption) | (intros; first | rfl | (exfalso; omega) | ((repeat' apply And.intro) <;> first | assumption | rfl | omega | trivial)))) ?_ -- o4
  refine OK_jb2 (vX3_add (M := M0) _ _ _ _ _ (by (first | assumption | omega | ((try dsimp only [jt2, jt3, jt4]); first | omega | (simp (disch := omega) only [jst_eq, jst_ne, jst_ni, jst_o, jI_i, jcpy_out, w32_id, jdiv_nn, jshr_k, jand_255] <;> first | done | omega | assumption)) | (intros; simp (disch := omega) only [jst_eq, jst_ne, jst_ni, jst_o, jI_i, jcpy_out, w32_id, jdiv_nn, *] <;> first | done | omega) | (intros; simp (disch := omega) only [jst_eq, jst_ne, jst_ni, jst_o, jI_i, jcpy_out, w32_id, jdiv_nn] at * <;> first | done | omega | assumption) | (intros; first | rfl | (exfalso; omega) | ((repeat' apply And.intro) <;> first | assumption | rfl | omega | trivial)))) (by (first | assumption | omega | ((try dsimp only [jt2, jt3, jt4]); first | omega | (simp (disch := omega) only [jst_eq, jst_ne, jst_ni, jst_o, jI_i, jcpy_out, w32_id, jdiv_nn, jshr_k, jand_255] <;> first | done | omega | assumption)) | (intros; simp (disch := omega) only [jst_eq, jst_ne, jst_ni, jst_o, jI_i, jcpy_out, w32_id, jdiv_nn, *] <;> first | done | omega) | (intros; simp (disch := omega) only [jst_eq, jst_ne, jst_ni, jst_o, jI_i, jcpy_out, w32_id, jdiv_nn] at * <;> first | done | omega | assumption) | (intros; first | rfl | (exfalso; omega) | ((repeat' apply And.intro) <;> first | assumption | rfl | omega | trivial))))) (fun v2 h3 r1 => ?_)
  try dsimp only [Sum.elim_inl, Sum.elim_inr, jt2, jt3, jt4, jt5, jt6, jt7, jt8] at r1
  obtain ⟨v1, at1, pt1, fr1⟩ := r1
  try simp (disch := omega) only [jst_eq, jst_ne, jst_ni, jI_i, jcmp_lt, jcmp_gt, w32_id, jcpy_out, Sum.elim_inl, Sum.elim_inr, jt2, jt3, jt4, jt5, jt6, jt7, jt8] at v1
  try simp (disch := omega) only [jst_eq, jst_ne, jst_ni, jI_i, jcmp_lt, jcmp_gt, w32_id, jcpy_out, Sum.elim_inl, Sum.elim_inr, jt2, jt3, jt4, jt5, jt6, jt7, jt8] at at1
  try simp (disch := omega) only [jst_eq, jst_ne, jst_ni, jI_i, jcmp_lt, jcmp_gt, w32_id, jcpy_out, Sum.elim_inl, Sum.elim_inr, jt2, jt3, jt4, jt5, jt6, jt7, jt8] at pt1
  try simp (disch := omega) only [jst_eq, jst_ne, jst_ni, jI_i, jcmp_lt, jcmp_gt, w32_id, jcpy_out, Sum.elim_inl, Sum.elim_inr, jt2, jt3, jt4, jt5, jt6, jt7, jt8] at fr1
  have F3 : ∀ a s, ¬ (a0 ≤ a ∧ a ≤ a0 + 5 ∧ 0 ≤ s) → h3 a s = h a s := fun a s y => fr1 a s (by omega) (by omega) (by omega)
  refine OK_jb (vX3_copy_l32 (M0 := M0) (M1 := M1) (k := k) (R := R) (hb := h) _ _ _ _ _ (by (first | assumption | omega | ((try dsimp only [jt2, jt3, jt4]); first | omega | (simp (disch := omega) only [jst_eq, jst_ne, jst_ni, jst_o, jI_i, jcpy_out, w32_id, jdiv_nn, jshr_k, jand_255] <;> first | done | omega | assumption)) | (intros; simp (disch := omega) only [jst_eq, jst_ne, jst_ni, jst_o, jI_i, jcpy_out, w32_id, jdiv_nn, *] <;> first | done | omega) | (intros; simp (disch := omega) only [jst_eq, jst_ne, jst_ni, jst_o, jI_i, jcpy_out, w32_id, jdiv_nn] at * <;> first | done | omega | assumption) | (intros; first | rfl | (exfalso; omega) | ((repeat' apply And.intro) <;> first | assumption | rfl | omega | trivial)))) (by (first | assumption | omega | ((try dsimp only [jt2, jt3, jt4]); first | omega | (simp (disch := omega) only [jst_eq, jst_ne, jst_ni, jst_o, jI_i, jcpy_out, w32_id, jdiv_nn, jshr_k, jand_255] <;> first | done | omega | assumption)) | (intros; simp (disch := omega) only [jst_eq, jst_ne, jst_ni, jst_o, jI_i, jcpy_out, w32_id, jdiv_nn, *] <;> first | done | omega) | (intros; simp (disch := omega) only [jst_eq, jst_ne, jst_ni, jst_o, jI_i, jcpy_out, w32_id, jdiv_nn] at * <;> first | done | omega | assumption) | (intros; first | rfl | (exfalso; omega) | ((repeat' apply And.intro) <;> first | assumption | rfl | omega | trivial)))) (by exact capT_fr c0 (fun a x0 x1 => F3 _ _ (by omega))) (by exact capT_fr c1 (fun a x0 x1 => F3 _ _ (by omega))) (by exact trX_fr (fun a s x0 x1 _ _ => F3 _ _ (by omega)) (fun s _ _ => F3 _ _ (by omega)) t (Int.le_refl 0)) (by omega) (by (first | assumption | omega | ((try dsimp only [jt2, jt3, jt4]); first | omega | (simp (disch := omega) only [jst_eq, jst_ne, jst_ni, jst_o, jI_i, jcpy_out, w32_id, jdiv_nn, jshr_k, jand_255] <;> first | done | omega | assumption)) | (intros; simp (disch := omega) only [jst_eq, jst_ne, jst_ni, jst_o, jI_i, jcpy_out, w32_id, jdiv_nn, *] <;> first | done | omega) | (intros; simp (disch := omega) only [jst_eq, jst_ne, jst_ni, jst_o, jI_i, jcpy_out, w32_id, jdiv_nn] at * <;> first | done | omega | assumption) | (intros; first | rfl | (exfalso; omega) | ((repeat' apply And.intro) <;> first | assumption | rfl | omega | trivial)))) (by (first | assumption | omega | ((try dsimp only [jt2, jt3, jt4]); first | omega | (simp (disch := omega) only [jst_eq, jst_ne, jst_ni, jst_o, jI_i, jcpy_out, w32_id, jdiv_nn, jshr_k, jand_255] <;> first | done | omega | assumption)) | (intros; simp (disch := omega) only [jst_eq, jst_ne, jst_ni, jst_o, jI_i, jcpy_out, w32_id, jdiv_nn, *] <;> first | done | omega) | (intros; simp (disch := omega) only [jst_eq, jst_ne, jst_ni, jst_o, jI_i, jcpy_out, w32_id, jdiv_nn] at * <;> first | done | omega | assumption) | (intros; first | rfl | (exfalso; omega) | ((repeat' apply And.intro) <;> first | assumption | rfl | omega | trivial)))) (by (have v0 : v2 = h a0 0 := v1.1; rw [v0]; exact ⟨by have := v1.2; show _ = _ + (0 : Int); omega, fun m m1 _ => absurd m1 (Nat.not_lt_zero m), fun m m0 _ m2 => pt1 m m0 m2, ⟨by rw [at1.1]; exact nd.2.2.1, by rw [at1.2.1]; exact nd.2.2.2.1, by rw [at1.2.2.1]; exact nd.2.2.2.2.1⟩, fun a s y1 y2 y3 => fr1 a s y1 (by intro z; apply y2; have e : kss sz R 0 = 0 := rfl; omega) (by intro z; apply y3; have e : kss sz R 0 = 0 := rfl; omega)⟩))) (fun o4 r2 => ?_)
  try dsimp only [Sum.elim_inl, Sum.elim_inr, jt2, jt3, jt4, jt5, jt6, jt7, jt8] at r2
  have iv2 := r2
  clear r2
  try simp (disch := omega) only [jst_eq, jst_ne, jst_ni, jI_i, jcmp_lt, jcmp_gt, w32_id, jcpy_out, Sum.elim_inl, Sum.elim_inr, jt2, jt3, jt4, jt5, jt6, jt7, jt8] at iv2
  refine OK_some ?_
  try dsimp only [Sum.elim_inl, Sum.elim_inr, jt2, jt3, jt4, jt5, jt6, jt7, jt8]
  (have E := ivC_end (by omega) iv2; have v0 : v2 = h a0 0 := v1.1; rw [v0] at E ⊢; exact ⟨rfl, E.1, E.2.1, E.2.2⟩) -- o16 e1
theorem CCX_D {T0 T1 M0 M1 : Int} (dj : dsj T0 T1) : ∀ D : Nat, CCX (gX3_copyD D) T0 T1 M0 M1 D
  | 0 => fun d h R _ _ _ _ dk => by have := dpT_0 R; omega
  | D + 1 => fun d h R c0 c1 t n dk => vX3_copy_ T0 T1 d (CCX_D dj D) dj c0 c1 t n (by omega)
theorem vX3_copy (a0 a1 a2 : Int) {h : AH} {M0 M1 : Int} {R : TR} (dj : dsj a0 a1) (c0 : capT h a0 M0) (c1 : capT h a1 M1) (t : trX h a1 0 M1 R a2 0) (n : 0 ≤ h a0 0 ∧ h a0 0 + sz R ≤ M0) (dk : dpT R ≤ 39) : OK (gX3_copy a0 a1 a2 h) (fun r => jt2 r fun v h' => poC a0 R h v h') := CCX_D dj 40 a2 h R c0 c1 t n (by omega)

