/-! terms in trees, anywhere within bounds -/
def trX (h : AH) (T lo hi : Int) : TR → Int → Int → Prop
  | .leaf i, d, j => lo ≤ d ∧ d < hi ∧ h (T + 1) d = i.1 ∧ h (T + 2) d = i.2.1 ∧ h (T + 3) d = i.2.2.1 ∧ ∀ k, 0 ≤ k → j ≤ k → k < 3 → h (T + 5) (3 * d + k) = -1
  | .branch _ s r, d, j => 0 ≤ j ∧ j < 3 ∧ trX h T lo hi s (h (T + 5) (3 * d + j)) 0 ∧ trX h T lo hi r d (j + 1)
/-- .. one behind the other -/
def cX (h : AH) (T : Int) : TR → Int → Int → Int → Prop
  | .leaf i, d, j, _ => h (T + 1) d = i.1 ∧ h (T + 2) d = i.2.1 ∧ h (T + 3) d = i.2.2.1 ∧ ∀ k, 0 ≤ k → j ≤ k → k < 3 → h (T + 5) (3 * d + k) = -1
  | .branch _ s r, d, j, p => 0 ≤ j ∧ j < 3 ∧ h (T + 5) (3 * d + j) = p ∧ cX h T s p 0 (p + 1) ∧ cX h T r d (j + 1) (p + sz s)
theorem trX_nd {h : AH} {T lo hi : Int} : ∀ {R : TR} {d j : Int}, trX h T lo hi R d j → lo ≤ d ∧ d < hi ∧ h (T + 1) d = (inf R).1 ∧ h (T + 2) d = (inf R).2.1 ∧ h (T + 3) d = (inf R).2.2.1 ∧ (0 ≤ j → j ≤ 3 → j + nk R ≤ 3)
  | .leaf i, d, j, t => ⟨t.1, t.2.1, t.2.2.1, t.2.2.2.1, t.2.2.2.2.1, fun a b => by show j + 0 ≤ 3; omega⟩
  | .branch b s r, d, j, t => by
    have q := trX_nd (R := r) t.2.2.2
    have := q.2.2.2.2.2
    exact ⟨q.1, q.2.1, q.2.2.1, q.2.2.2.1, q.2.2.2.2.1, fun a c => by have := t.2.1; show j + (nk r + 1) ≤ 3; omega⟩
theorem trX_kd {h : AH} {T lo hi : Int} : ∀ {R : TR} {d j : Int} (k : Nat), trX h T lo hi R d j → (k : Int) < nk R → trX h T lo hi (kdA R k) (h (T + 5) (3 * d + (j + k))) 0
  | .leaf i, d, j, k, _, l => by have e : nk (.leaf i) = 0 := rfl; omega
  | .branch b s r, d, j, 0, t, _ => by rw [show j + ((0 : Nat) : Int) = j from Int.add_zero j]; exact t.2.2.1
  | .branch b s r, d, j, k + 1, t, l => by
    have e : nk (.branch b s r) = nk r + 1 := rfl
    have q := trX_kd (R := r) k t.2.2.2 (by omega)
    rw [show j + ((k + 1 : Nat) : Int) = j + 1 + (k : Int) by omega]
    exact q
theorem trX_no {h : AH} {T lo hi : Int} : ∀ {R : TR} {d j : Int}, trX h T lo hi R d j → ∀ k, 0 ≤ k → j + nk R ≤ k → k < 3 → h (T + 5) (3 * d + k) = -1
  | .leaf i, d, j, t => fun k k0 k1 k2 => t.2.2.2.2.2 k k0 (by have e : nk (.leaf i) = 0 := rfl; omega) k2
  | .branch b s r, d, j, t => fun k k0 k1 k2 => trX_no t.2.2.2 k k0 (by have e : nk (.branch b s r) = nk r + 1 := rfl; omega) k2
theorem trX_fr {h h' : AH} {T lo hi : Int} (f : ∀ a s, T + 1 ≤ a → a ≤ T + 3 → lo ≤ s → s < hi → h' a s = h a s) (g : ∀ s, 3 * lo ≤ s → s < 3 * hi → h' (T + 5) s = h (T + 5) s) : ∀ {R : TR} {d j : Int}, trX h T lo hi R d j → 0 ≤ j → trX h' T lo hi R d j
  | .leaf i, d, j, t, j0 => by
    obtain ⟨a, b, c, e, k, q⟩ := t
    refine ⟨a, b, by rw [f _ _ (by omega) (by omega) a b]; exact c, by rw [f _ _ (by omega) (by omega) a b]; exact e, by rw [f _ _ (by omega) (by omega) a b]; exact k, fun k k0 k1 k2 => ?_⟩
    rw [g _ (by omega) (by omega)]
    exact q k k0 k1 k2
  | .branch b s r, d, j, t, j0 => by
    obtain ⟨t1, t2, t3, t4⟩ := t
    have n := trX_nd t4
    refine ⟨t1, t2, ?_, trX_fr f g t4 (by omega)⟩
    rw [g _ (by omega) (by omega)]
    exact trX_fr f g t3 (Int.le_refl _)
theorem trX_le {h : AH} {T lo hi lo' hi' : Int} (a : lo' ≤ lo) (b : hi ≤ hi') : ∀ {R : TR} {d j : Int}, trX h T lo hi R d j → trX h T lo' hi' R d j
  | .leaf i, d, j, t => ⟨by have := t.1; omega, by have := t.2.1; omega, t.2.2⟩
  | .branch _ s r, d, j, t => ⟨t.1, t.2.1, trX_le a b t.2.2.1, trX_le a b t.2.2.2⟩
theorem cX_tr {h : AH} {T lo hi : Int} : ∀ {R : TR} {d j p : Int}, cX h T R d j p → lo ≤ d → d < hi → lo ≤ p → p + (sz R - 1) ≤ hi → trX h T lo hi R d j
  | .leaf i, d, j, p, c, d0, d1, _, _ => ⟨d0, d1, c⟩
  | .branch b s r, d, j, p, c, d0, d1, p0, p1 => by
    obtain ⟨c1, c2, c3, c4, c5⟩ := c
    have z1 := sz_pos s
    have z2 := sz_pos r
    have e : sz (.branch b s r) = sz s + sz r := rfl
    rw [e] at p1
    refine ⟨c1, c2, ?_, cX_tr c5 d0 d1 (by omega) (by omega)⟩
    rw [c3]
    exact cX_tr c4 p0 (by omega) (by omega) (by omega)
theorem cX_fr {h h' : AH} {T lo hi : Int} (f : ∀ a s, T + 1 ≤ a → a ≤ T + 3 → lo ≤ s → s < hi → h' a s = h a s) (g : ∀ s, 3 * lo ≤ s → s < 3 * hi → h' (T + 5) s = h (T + 5) s) : ∀ {R : TR} {d j p : Int}, cX h T R d j p → 0 ≤ j → lo ≤ d → d < hi → lo ≤ p → p + (sz R - 1) ≤ hi → cX h' T R d j p
  | .leaf i, d, j, p, t, j0, a, b, _, _ => by
    obtain ⟨c, e, k, q⟩ := t
    refine ⟨by rw [f _ _ (by omega) (by omega) a b]; exact c, by rw [f _ _ (by omega) (by omega) a b]; exact e, by rw [f _ _ (by omega) (by omega) a b]; exact k, fun k k0 k1 k2 => ?_⟩
    rw [g _ (by omega) (by omega)]
    exact q k k0 k1 k2
  | .branch b s r, d, j, p, c, j0, d0, d1, p0, p1 => by
    obtain ⟨c1, c2, c3, c4, c5⟩ := c
    have z1 := sz_pos s
    have z2 := sz_pos r
    have e : sz (.branch b s r) = sz s + sz r := rfl
    rw [e] at p1
    exact ⟨c1, c2, by rw [g _ (by omega) (by omega)]; exact c3, cX_fr f g c4 (Int.le_refl _) p0 (by omega) (by omega) (by omega), cX_fr f g c5 (by omega) d0 d1 (by omega) (by omega)⟩
/-- sums over operands -/
def kss (g : TR → Int) (R : TR) : Nat → Int
  | 0 => 0
  | k + 1 => kss g R k + (if (k : Int) < nk R then g (kdA R k) else 0)
theorem kss_br {g : TR → Int} {b : Nat} {s r : TR} : ∀ k : Nat, kss g (.branch b s r) (k + 1) = g s + kss g r k
  | 0 => by
    show 0 + (if ((0 : Nat) : Int) < nk r + 1 then g s else 0) = g s + 0
    rw [if_pos (by have := nk_0 r; omega)]; omega
  | k + 1 => by
    have ih := kss_br (g := g) (b := b) (s := s) (r := r) k
    show kss g (.branch b s r) (k + 1) + (if ((k + 1 : Nat) : Int) < nk r + 1 then g (kdA r k) else 0) = g s + (kss g r k + (if (k : Int) < nk r then g (kdA r k) else 0))
    rw [ih]
    by_cases q : (k : Int) < nk r
    · rw [if_pos q, if_pos (by omega)]; omega
    · rw [if_neg q, if_neg (by omega)]; omega
theorem kss_sz : ∀ (R : TR) (k : Nat), nk R ≤ (k : Int) → sz R = 1 + kss sz R k
  | .leaf i, 0, _ => rfl
  | .leaf i, k + 1, _ => by
    have ih := kss_sz (.leaf i) k (by show (0 : Int) ≤ _; omega)
    show sz (.leaf i) = 1 + (kss sz (.leaf i) k + (if (k : Int) < 0 then _ else 0))
    rw [if_neg (by omega)]; omega
  | .branch b s r, 0, l => by have e : nk (.branch b s r) = nk r + 1 := rfl; have := nk_0 r; omega
  | .branch b s r, k + 1, l => by
    have e : nk (.branch b s r) = nk r + 1 := rfl
    have ih := kss_sz r k (by omega)
    rw [kss_br]
    show sz s + sz r = _
    omega
theorem dpT_kd : ∀ (R : TR) (k : Nat), (k : Int) < nk R → dpT (kdA R k) + 1 ≤ dpT R
  | .leaf i, k, l => by have e : nk (.leaf i) = 0 := rfl; omega
  | .branch b s r, 0, _ => by show dpT s + 1 ≤ max (dpT s + 1) (dpT r); omega
  | .branch b s r, k + 1, l => by
    have e : nk (.branch b s r) = nk r + 1 := rfl
    have := dpT_kd r k (by omega)
    show dpT (kdA r k) + 1 ≤ max (dpT s + 1) (dpT r)
    omega
theorem kss_0 {g : TR → Int} (g0 : ∀ R, 0 ≤ g R) (R : TR) : ∀ k : Nat, 0 ≤ kss g R k
  | 0 => Int.le_refl _
  | k + 1 => by
    have := kss_0 g0 R k
    have := g0 (kdA R k)
    show 0 ≤ kss g R k + (if (k : Int) < nk R then g (kdA R k) else 0)
    by_cases q : (k : Int) < nk R
    · rw [if_pos q]; omega
    · rw [if_neg q]; omega
theorem kss_le {g : TR → Int} (g0 : ∀ R, 0 ≤ g R) (R : TR) {k : Nat} : ∀ m : Nat, k ≤ m → kss g R k ≤ kss g R m
  | 0, h => by rw [show k = 0 by omega]; exact Int.le_refl _
  | m + 1, h => by
    by_cases q : k = m + 1
    · rw [q]; exact Int.le_refl _
    · have ih := kss_le g0 R (k := k) m (by omega)
      have := g0 (kdA R m)
      show kss g R k ≤ kss g R m + (if (m : Int) < nk R then g (kdA R m) else 0)
      by_cases z : (m : Int) < nk R
      · rw [if_pos z]; omega
      · rw [if_neg z]; omega
/-! sizes -/
def CSX (F : Int → Int → AH → Option Int) (h : AH) (T M k : Int) : Prop := ∀ (d : Int) (R : TR), trX h T 0 M R d 0 → sz R ≤ 100000 → dpT R + 1 ≤ k → OK (F T d h) (fun v => v = sz R)
theorem vX3_size_l4 {F : Int → Int → AH → Option (Int)} (i0 : Int) (i1 : Int) (a20 : Int) (a30 : Int) {h : AH} {M k : Int} {R : TR} (hF : CSX F h i0 M k) (cp : capT h i0 M) (t : trX h i0 0 M R i1 0) (s : sz R ≤ 100000) (dk : dpT R + 1 ≤ k + 1) (z : a20 = 1 ∧ a30 = 0) : OK (gX3_size_l4 F i0 i1 a20 a30 h) (fun v => v = sz R) := by
  unfold gX3_size_l4
  refine OK_jit (I := (fun (s : Int × Int) => jt2 s fun a2 a3 => (0 ≤ a3 ∧ a3 ≤ 3) ∧ (a2 = 1 + kss sz R a3.toNat))) (m := (fun (s : Int × Int) => jt2 s fun a2 a3 => (3 - a3).toNat)) ?_ ?_
  · intro s hs
    obtain ⟨a2, a3⟩ := s
    dsimp only [Sum.elim_inl, Sum.elim_inr, jt2, jt3, jt4, jt5, jt6, jt7, jt8] at hs
    obtain ⟨q0, q1⟩ := hs
    unfold gX3_size_b4
    refine OK_jt2 ?_
    have nd := trX_nd t
    have k0 := kss_0 (g := sz) (fun R => by have := sz_pos R; omega) R a3.toNat
    refine OK_if (fun c1 => ?_) (fun c1 => ?_)
    · skip
      try simp (disch := omega) only [jst_eq, jst_ne, jst_ni, jI_i, jcmp_lt, jcmp_gt, w32_id, jcpy_out, Sum.elim_inl, Sum.elim_inr, jt2, jt3, jt4, jt5, jt6, jt7, jt8] at c1
      refine OK_ir ?_
      (have k3 := kss_sz R 3 (by have := nd.2.2.2.2.2 (by decide) (by decide); omega); rw [k3, q1, show a3 = 3 by omega]; rfl) -- o1 e1
    · skip
      try simp (disch := omega) only [jst_eq, jst_ne, jst_ni, jI_i, jcmp_lt, jcmp_gt, w32_id, jcpy_out, Sum.elim_inl, Sum.elim_inr, jt2, jt3, jt4, jt5, jt6, jt7, jt8] at c1
      have ea : ((a3.toNat : Nat) : Int) = a3 := by omega
      have ks : kss sz R (a3 + 1).toNat = kss sz R a3.toNat + (if a3 < nk R then sz (kdA R a3.toNat) else 0) := by { rw [show (a3 + 1).toNat = a3.toNat + 1 by omega]; show _ + (if ((a3.toNat : Nat) : Int) < _ then _ else _) = _; rw [ea] }
      have no := trX_no t a3 q0.1
      refine OK_jb (vX3_part (M := M) _ _ _ (by (first | assumption | omega | ((try dsimp only [jt2, jt3, jt4]); first | omega | (simp (disch := omega) only [jst_eq, jst_ne, jst_ni, jst_o, jI_i, jcpy_out, w32_id, jdiv_nn, jshr_k, jand_255] <;> first | done | omega | assumption)) | (intros; simp (disch := omega) only [jst_eq, jst_ne, jst_ni, jst_o, jI_i, jcpy_out, w32_id, jdiv_nn, *] <;> first | done | omega) | (intros; simp (disch := omega) only [jst_eq, jst_ne, jst_ni, jst_o, jI_i, jcpy_out, w32_id, jdiv_nn] at * <;> first | done | omega | assumption) | (intros; first | rfl | (exfalso; omega) | ((repeat' apply And.intro) <;> first | assumption | rfl | omega | trivial)))) (by (first | assumption | omega | ((try dsimp only [jt2, jt3, jt4]); first | omega | (simp (disch := omega) only [jst_eq, jst_ne, jst_ni, jst_o, jI_i, jcpy_out, w32_id, jdiv_nn, jshr_k, jand_255] <;> first | done | omega | assumption)) | (intros; simp (disch := omega) only [jst_eq, jst_ne, jst_ni, jst_o, jI_i, jcpy_out, w32_id, jdiv_nn, *] <;> first | done | omega) | (intros; simp (disch := omega) only [jst_eq, jst_ne, jst_ni, jst_o, jI_i, jcpy_out, w32_id, jdiv_nn] at * <;> first | done | omega | assumption) | (intros; first | rfl | (exfalso; omega) | ((repeat' apply And.intro) <;> first | assumption | rfl | omega | trivial))))) (fun v5 r1 => ?_)
      try dsimp only [Sum.elim_inl, Sum.elim_inr, jt2, jt3, jt4, jt5, jt6, jt7, jt8] at r1
      have v1 := r1
      clear r1
      try simp (disch := omega) only [jst_eq, jst_ne, jst_ni, jI_i, jcmp_lt, jcmp_gt, w32_id, jcpy_out, Sum.elim_inl, Sum.elim_inr, jt2, jt3, jt4, jt5, jt6, jt7, jt8] at v1
      rw [if_neg (by omega)] at v1
      refine OK_if (fun c2 => ?_) (fun c2 => ?_)
      · skip
        try simp (disch := omega) only [jst_eq, jst_ne, jst_ni, jI_i, jcmp_lt, jcmp_gt, w32_id, jcpy_out, Sum.elim_inl, Sum.elim_inr, jt2, jt3, jt4, jt5, jt6, jt7, jt8] at c2
        have lk : ¬ a3 < nk R := fun y => by { have q := (trX_nd (trX_kd a3.toNat t (by omega))).1; rw [ea, Int.zero_add] at q; omega }
        rw [if_neg lk] at ks
        unfold gX3_size_j31_4
        refine OK_jlx (fun x12 ex12 => ?_)
        try simp (disch := omega) only [jst_eq, jst_ne, jst_ni, jI_i, jcmp_lt, jcmp_gt, w32_id, jcpy_out, Sum.elim_inl, Sum.elim_inr, jt2, jt3, jt4, jt5, jt6, jt7, jt8] at ex12
        refine OK_il ?_ ?_
        · try dsimp only [Sum.elim_inl, Sum.elim_inr, jt2, jt3, jt4, jt5, jt6, jt7, jt8]
          refine ⟨?_, ?_⟩
          · (first | assumption | omega | ((try dsimp only [jt2, jt3, jt4]); first | omega | (simp (disch := omega) only [jst_eq, jst_ne, jst_ni, jst_o, jI_i, jcpy_out, w32_id, jdiv_nn, jshr_k, jand_255] <;> first | done | omega | assumption)) | (intros; simp (disch := omega) only [jst_eq, jst_ne, jst_ni, jst_o, jI_i, jcpy_out, w32_id, jdiv_nn, *] <;> first | done | omega) | (intros; simp (disch := omega) only [jst_eq, jst_ne, jst_ni, jst_o, jI_i, jcpy_out, w32_id, jdiv_nn] at * <;> first | done | omega | assumption) | (intros; first | rfl | (exfalso; omega) | ((repeat' apply And.intro) <;> first | assumption | rfl | omega | trivial))) -- o4 e2i.1
          · (rw [ex12, ks, q1]; omega) -- o5 e2i.2
        · (first | assumption | omega | ((try dsimp only [jt2, jt3, jt4]); first | omega | (simp (disch := omega) only [jst_eq, jst_ne, jst_ni, jst_o, jI_i, jcpy_out, w32_id, jdiv_nn, jshr_k, jand_255] <;> first | done | omega | assumption)) | (intros; simp (disch := omega) only [jst_eq, jst_ne, jst_ni, jst_o, jI_i, jcpy_out, w32_id, jdiv_nn, *] <;> first | done | omega) | (intros; simp (disch := omega) only [jst_eq, jst_ne, jst_ni, jst_o, jI_i, jcpy_out, w32_id, jdiv_nn] at * <;> first | done | omega | assumption) | (intros; first | rfl | (exfalso; omega) | ((repeat' apply And.intro) <;> first | assumption | rfl | omega | trivial))) -- o6 e2m
      · skip
        try simp (disch := omega) only [jst_eq, jst_ne, jst_ni, jI_i, jcmp_lt, jcmp_gt, w32_id, jcpy_out, Sum.elim_inl, Sum.elim_inr, jt2, jt3, jt4, jt5, jt6, jt7, jt8] at c2
        have lk : a3 < nk R := Classical.byContradiction fun y => by { have := no (by omega) (by omega); omega }
        have kt := trX_kd a3.toNat t (by omega)
        have kd := dpT_kd R a3.toNat (by omega)
        rw [ea, Int.zero_add] at kt
        have kl := kss_le (g := sz) (fun R => by have := sz_pos R; omega) R (k := (a3 + 1).toNat) 3 (by omega)
        have k3 := kss_sz R 3 (by omega)
        have sp := sz_pos (kdA R a3.toNat)
        rw [if_pos lk] at ks
        refine OK_jb (vX3_part (M := M) _ _ _ (by (first | assumption | omega | ((try dsimp only [jt2, jt3, jt4]); first | omega | (simp (disch := omega) only [jst_eq, jst_ne, jst_ni, jst_o, jI_i, jcpy_out, w32_id, jdiv_nn, jshr_k, jand_255] <;> first | done | omega | assumption)) | (intros; simp (disch := omega) only [jst_eq, jst_ne, jst_ni, jst_o, jI_i, jcpy_out, w32_id, jdiv_nn, *] <;> first | done | omega) | (intros; simp (disch := omega) only [jst_eq, jst_ne, jst_ni, jst_o, jI_i, jcpy_out, w32_id, jdiv_nn] at * <;> first | done | omega | assumption) | (intros; first | rfl | (exfalso; omega) | ((repeat' apply And.intro) <;> first | assumption | rfl | omega | trivial)))) (by (first | assumption | omega | ((try dsimp only [jt2, jt3, jt4]); first | omega | (simp (disch := omega) only [jst_eq, jst_ne, jst_ni, jst_o, jI_i, jcpy_out, w32_id, jdiv_nn, jshr_k, jand_255] <;> first | done | omega | assumption)) | (intros; simp (disch := omega) only [jst_eq, jst_ne, jst_ni, jst_o, jI_i, jcpy_out, w32_id, jdiv_nn, *] <;> first | done | omega) | (intros; simp (disch := omega) only [jst_eq, jst_ne, jst_ni, jst_o, jI_i, jcpy_out, w32_id, jdiv_nn] at * <;> first | done | omega | assumption) | (intros; first | rfl | (exfalso; omega) | ((repeat' apply And.intro) <;> first | assumption | rfl | omega | trivial))))) (fun v8 r2 => ?_)
        try dsimp only [Sum.elim_inl, Sum.elim_inr, jt2, jt3, jt4, jt5, jt6, jt7, jt8] at r2
        have v2 := r2
        clear r2
        try simp (disch := omega) only [jst_eq, jst_ne, jst_ni, jI_i, jcmp_lt, jcmp_gt, w32_id, jcpy_out, Sum.elim_inl, Sum.elim_inr, jt2, jt3, jt4, jt5, jt6, jt7, jt8] at v2
        rw [if_neg (by omega)] at v2
        refine OK_jb (hF _ (kdA R a3.toNat) (by (rw [v2]; exact kt)) (by omega) (by omega)) (fun v10 r3 => ?_)
        try dsimp only [Sum.elim_inl, Sum.elim_inr, jt2, jt3, jt4, jt5, jt6, jt7, jt8] at r3
        have sv3 := r3
        clear r3
        try simp (disch := omega) only [jst_eq, jst_ne, jst_ni, jI_i, jcmp_lt, jcmp_gt, w32_id, jcpy_out, Sum.elim_inl, Sum.elim_inr, jt2, jt3, jt4, jt5, jt6, jt7, jt8] at sv3
        refine OK_jlx (fun x11 ex11 => ?_)
        try simp (disch := omega) only [jst_eq, jst_ne, jst_ni, jI_i, jcmp_lt, jcmp_gt, w32_id, jcpy_out, Sum.elim_inl, Sum.elim_inr, jt2, jt3, jt4, jt5, jt6, jt7, jt8] at ex11
        unfold gX3_size_j31_4
        refine OK_jlx (fun x12 ex12 => ?_)
        try simp (disch := omega) only [jst_eq, jst_ne, jst_ni, jI_i, jcmp_lt, jcmp_gt, w32_id, jcpy_out, Sum.elim_inl, Sum.elim_inr, jt2, jt3, jt4, jt5, jt6, jt7, jt8] at ex12
        refine OK_il ?_ ?_
        · try dsimp only [Sum.elim_inl, Sum.elim_inr, jt2, jt3, jt4, jt5, jt6, jt7, jt8]
          refine ⟨?_, ?_⟩
          · (first | assumption | omega | ((try dsimp only [jt2, jt3, jt4]); first | omega | (simp (disch := omega) only [jst_eq, jst_ne, jst_ni, jst_o, jI_i, jcpy_out, w32_id, jdiv_nn, jshr_k, jand_255] <;> first | done | omega | assumption)) | (intros; simp (disch := omega) only [jst_eq, jst_ne, jst_ni, jst_o, jI_i, jcpy_out, w32_id, jdiv_nn, *] <;> first | done | omega) | (intros; simp (disch := omega) only [jst_eq, jst_ne, jst_ni, jst_o, jI_i, jcpy_out, w32_id, jdiv_nn] at * <;> first | done | omega | assumption) | (intros; first | rfl | (exfalso; omega) | ((repeat' apply And.intro) <;> first | assumption | rfl | omega | trivial))) -- o12 e3i.1
          · (first | assumption | omega | ((try dsimp only [jt2, jt3, jt4]); first | omega | (simp (disch := omega) only [jst_eq, jst_ne, jst_ni, jst_o, jI_i, jcpy_out, w32_id, jdiv_nn, jshr_k, jand_255] <;> first | done | omega | assumption)) | (intros; simp (disch := omega) only [jst_eq, jst_ne, jst_ni, jst_o, jI_i, jcpy_out, w32_id, jdiv_nn, *] <;> first | done | omega) | (intros; simp (disch := omega) only [jst_eq, jst_ne, jst_ni, jst_o, jI_i, jcpy_out, w32_id, jdiv_nn] at * <;> first | done | omega | assumption) | (intros; first | rfl | (exfalso; omega) | ((repeat' apply And.intro) <;> first | assumption | rfl | omega | trivial))) -- o13 e3i.2
        · (first | assumption | omega | ((try dsimp only [jt2, jt3, jt4]); first | omega | (simp (disch := omega) only [jst_eq, jst_ne, jst_ni, jst_o, jI_i, jcpy_out, w32_id, jdiv_nn, jshr_k, jand_255] <;> first | done | omega | assumption)) | (intros; simp (disch := omega) only [jst_eq, jst_ne, jst_ni, jst_o, jI_i, jcpy_out, w32_id, jdiv_nn, *] <;> first | done | omega) | (intros; simp (disch := omega) only [jst_eq, jst_ne, jst_ni, jst_o, jI_i, jcpy_out, w32_id, jdiv_nn] at * <;> first | done | omega | assumption) | (intros; first | rfl | (exfalso; omega) | ((repeat' apply And.intro) <;> first | assumption | rfl | omega | trivial))) -- o14 e3m
  · try dsimp only [Sum.elim_inl, Sum.elim_inr, jt2, jt3, jt4, jt5, jt6, jt7, jt8]
    refine ⟨?_, ?_⟩
    · (first | assumption | omega | ((try dsimp only [jt2, jt3, jt4]); first | omega | (simp (disch := omega) only [jst_eq, jst_ne, jst_ni, jst_o, jI_i, jcpy_out, w32_id, jdiv_nn, jshr_k, jand_255] <;> first | done | omega | assumption)) | (intros; simp (disch := omega) only [jst_eq, jst_ne, jst_ni, jst_o, jI_i, jcpy_out, w32_id, jdiv_nn, *] <;> first | done | omega) | (intros; simp (disch := omega) only [jst_eq, jst_ne, jst_ni, jst_o, jI_i, jcpy_out, w32_id, jdiv_nn] at * <;> first | done | omega | assumption) | (intros; first | rfl | (exfalso; omega) | ((repeat' apply And.intro) <;> first | assumption | rfl | omega | trivial))) -- o15 init.1
    · (rw [z.1, z.2]; rfl) -- o16 init.2
theorem vX3_size_ {F : Int → Int → AH → Option (Int)} (a0 : Int) (a1 : Int) {h : AH} {M k : Int} {R : TR} (hF : CSX F h a0 M k) (cp : capT h a0 M) (t : trX h a0 0 M R a1 0) (s : sz R ≤ 100000) (dk : dpT R + 1 ≤ k + 1) : OK (gX3_size_ F a0 a1 h) (fun v => v = sz R) := by
  unfold gX3_size_
  refine OK_jb (vX3_size_l4 (M := M) (k := k) (R := R) _ _ _ _ (by (first | assumption | omega | ((try dsimp only [jt2, jt3, jt4]); first | omega | (simp (disch := omega) only [jst_eq, jst_ne, jst_ni, jst_o, jI_i, jcpy_out, w32_id, jdiv_nn, jshr_k, jand_255] <;> first | done | omega | assumption)) | (intros; simp (disch := omega) only [jst_eq, jst_ne, jst_ni, jst_o, jI_i, jcpy_out, w32_id, jdiv_nn, *] <;> first | done | omega) | (intros; simp (disch := omega) only [jst_eq, jst_ne, jst_ni, jst_o, jI_i, jcpy_out, w32_id, jdiv_nn] at * <;> first | done | omega | assumption) | (intros; first | rfl | (exfalso; omega) | ((repeat' apply And.intro) <;> first | assumption | rfl | omega | trivial)))) (by (first | assumption | omega | ((try dsimp only [jt2, jt3, jt4]); first | omega | (simp (disch := omega) only [jst_eq, jst_ne, jst_ni, jst_o, jI_i, jcpy_out, w32_id, jdiv_nn, jshr_k, jand_255] <;> first | done | omega | assumption)) | (intros; simp (disch := omega) only [jst_eq, jst_ne, jst_ni, jst_o, jI_i, jcpy_out, w32_id, jdiv_nn, *] <;> first | done | omega) | (intros; simp (disch := omega) only [jst_eq, jst_ne, jst_ni, jst_o, jI_i, jcpy_out, w32_id, jdiv_nn] at * <;> first | done | omega | assumption) | (intros; first | rfl | (exfalso; omega) | ((repeat' apply And.intro) <;> first | assumption | rfl | omega | trivial)))) (by (first | assumption | omega | ((try dsimp only [jt2, jt3, jt4]); first | omega | (simp (disch := omega) only [jst_eq, jst_ne, jst_ni, jst_o, jI_i, jcpy_out, w32_id, jdiv_nn, jshr_k, jand_255] <;> first | done | omega | assumption)) | (intros; simp (disch := omega) only [jst_eq, jst_ne, jst_ni, jst_o, jI_i, jcpy_out, w32_id, jdiv_nn, *] <;> first | done | omega) | (intros; simp (disch := omega) only [jst_eq, jst_ne, jst_ni, jst_o, jI_i, jcpy_out, w32_id, jdiv_nn] at * <;> first | done | omega | assumption) | (intros; first | rfl | (exfalso; omega) | ((repeat' apply And.intro) <;> first | assumption | rfl | omega | trivial)))) (by (first | assumption | omega | ((try dsimp only [jt2, jt3, jt4]); first | omega | (simp (disch := omega) only [jst_eq, jst_ne, jst_ni, jst_o, jI_i, jcpy_out, w32_id, jdiv_nn, jshr_k, jand_255] <;> first | done | omega | assumption)) | (intros; simp (disch := omega) only [jst_eq, jst_ne, jst_ni, jst_o, jI_i, jcpy_out, w32_id, jdiv_nn, *] <;> first | done | omega) | (intros; simp (disch := omega) only [jst_eq, jst_ne, jst_ni, jst_o, jI_i, jcpy_out, w32_id, jdiv_nn] at * <;> first | done | omega | assumption) | (intros; first | rfl | (exfalso; omega) | ((repeat' apply And.intro) <;> first | assumption | rfl | omega | trivial)))) (by (first | assumption | omega | ((try dsimp only [jt2, jt3, jt4]); first | omega | (simp (disch := omega) only [jst_eq, jst_ne, jst_ni, jst_o, jI_i, jcpy_out, w32_id, jdiv_nn, jshr_k, jand_255] <;> first | done | omega | assumption)) | (intros; simp (disch := omega) only [jst_eq, jst_ne, jst_ni, jst_o, jI_i, jcpy_out, w32_id, jdiv_nn, *] <;> first | done | omega) | (intros; simp (disch := omega) only [jst_eq, jst_ne, jst_ni, jst_o, jI_i, jcpy_out, w32_id, jdiv_nn] at * <;> first | done | omega | assumption) | (intros; first | rfl | (exfalso; omega) | ((repeat' apply And.intro) <;> first | assumption | rfl | omega | trivial)))) (by (first | assumption | omega | ((try dsimp only [jt2, jt3, jt4]); first | omega | (simp (disch := omega) only [jst_eq, jst_ne, jst_ni, jst_o, jI_i, jcpy_out, w32_id, jdiv_nn, jshr_k, jand_255] <;> first | done | omega | assumption)) | (intros; simp (disch := omega) only [jst_eq, jst_ne, jst_ni, jst_o, jI_i, jcpy_out, w32_id, jdiv_nn, *] <;> first | done | omega) | (intros; simp (disch := omega) only [jst_eq, jst_ne, jst_ni, jst_o, jI_i, jcpy_out, w32_id, jdiv_nn] at * <;> first | done | omega | assumption) | (intros; first | rfl | (exfalso; omega) | ((repeat' apply And.intro) <;> first | assumption | rfl | omega | trivial))))) (fun o1 r1 => ?_)
  try dsimp only [Sum.elim_inl, Sum.elim_inr, jt2, jt3, jt4, jt5, jt6, jt7, jt8] at r1
  have sv1 := r1
  clear r1
  try simp (disch := omega) only [jst_eq, jst_ne, jst_ni, jI_i, jcmp_lt, jcmp_gt, w32_id, jcpy_out, Sum.elim_inl, Sum.elim_inr, jt2, jt3, jt4, jt5, jt6, jt7, jt8] at sv1
  refine OK_some ?_
  try dsimp only [Sum.elim_inl, Sum.elim_inr, jt2, jt3, jt4, jt5, jt6, jt7, jt8]
  (first | assumption | omega | ((try dsimp only [jt2, jt3, jt4]); first | omega | (simp (disch := omega) only [jst_eq, jst_ne, jst_ni, jst_o, jI_i, jcpy_out, w32_id, jdiv_nn, jshr_k, jand_255] <;> first | done | omega | assumption)) | (intros; simp (disch := omega) only [jst_eq, jst_ne, jst_ni, jst_o, jI_i, jcpy_out, w32_id, jdiv_nn, *] <;> first | done | omega) | (intros; simp (disch := omega) only [jst_eq, jst_ne, jst_ni, jst_o, jI_i, jcpy_out, w32_id, jdiv_nn] at * <;> first | done | omega | assumption) | (intros; first | rfl | (exfalso; omega) | ((repeat' apply And.intro) <;> first | assumption | rfl | omega | trivial))) -- o7 e1
theorem CSX_D {h : AH} {T M : Int} (cp : capT h T M) : ∀ D : Nat, CSX (gX3_sizeD D) h T M D
  | 0 => fun d R _ _ dk => by have := dpT_0 R; omega
  | D + 1 => fun d R t s dk => vX3_size_ T d (CSX_D cp D) cp t s (by omega)
theorem vX3_size (a0 a1 : Int) {h : AH} {M : Int} {R : TR} (cp : capT h a0 M) (t : trX h a0 0 M R a1 0) (s : sz R ≤ 100000) (dk : dpT R ≤ 39) : OK (gX3_size a0 a1 h) (fun v => v = sz R) := CSX_D cp 40 a1 R t s (by omega)

