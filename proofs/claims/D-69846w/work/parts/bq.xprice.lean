/-! x: the price of a term, whole -/
noncomputable def cosK (A : AD) (R : TR) : Nat → Int
  | 0 => prI A (inf R)
  | k + 1 => if (k : Int) < nk R then (if cosK A R k < 0 ∨ cosT A (kdA R k) < 0 then -1 else cosK A R k + cosT A (kdA R k)) else cosK A R k
theorem cosK_br {A : AD} {b : Nat} {s r : TR} : ∀ k : Nat, cosK A (.branch b s r) (k + 1) = if cosK A r k < 0 ∨ cosT A s < 0 then -1 else cosT A s + cosK A r k
  | 0 => by
    have n0 := nk_0 r
    show (if ((0 : Nat) : Int) < nk r + 1 then (if prI A (inf r) < 0 ∨ cosT A s < 0 then -1 else prI A (inf r) + cosT A s) else prI A (inf r)) = if prI A (inf r) < 0 ∨ cosT A s < 0 then -1 else cosT A s + prI A (inf r)
    rw [if_pos (by omega)]
    by_cases y : prI A (inf r) < 0 ∨ cosT A s < 0
    · rw [if_pos y, if_pos y]
    · rw [if_neg y, if_neg y]; omega
  | k + 1 => by
    have ih := cosK_br (A := A) (b := b) (s := s) (r := r) k
    show (if ((k + 1 : Nat) : Int) < nk r + 1 then (if cosK A (.branch b s r) (k + 1) < 0 ∨ cosT A (kdA r k) < 0 then -1 else cosK A (.branch b s r) (k + 1) + cosT A (kdA r k)) else cosK A (.branch b s r) (k + 1)) = if (if (k : Int) < nk r then (if cosK A r k < 0 ∨ cosT A (kdA r k) < 0 then -1 else cosK A r k + cosT A (kdA r k)) else cosK A r k) < 0 ∨ cosT A s < 0 then -1 else cosT A s + (if (k : Int) < nk r then (if cosK A r k < 0 ∨ cosT A (kdA r k) < 0 then -1 else cosK A r k + cosT A (kdA r k)) else cosK A r k)
    rw [ih]
    generalize cosK A r k = x
    generalize cosT A (kdA r k) = y
    generalize cosT A s = z
    by_cases q : (k : Int) < nk r
    · rw [if_pos (show ((k + 1 : Nat) : Int) < nk r + 1 by omega), if_pos q]
      by_cases x0 : x < 0
      · rw [if_pos (show x < 0 ∨ z < 0 from .inl x0), if_pos (show (-1 : Int) < 0 ∨ y < 0 by omega), if_pos (show x < 0 ∨ y < 0 from .inl x0), if_pos (show (-1 : Int) < 0 ∨ z < 0 by omega)]
      · by_cases z0 : z < 0
        · rw [if_pos (show x < 0 ∨ z < 0 from .inr z0), if_pos (show (-1 : Int) < 0 ∨ y < 0 by omega), if_pos (show _ ∨ z < 0 from .inr z0)]
        · rw [if_neg (show ¬ (x < 0 ∨ z < 0) by omega)]
          by_cases y0 : y < 0
          · rw [if_pos (show z + x < 0 ∨ y < 0 from .inr y0), if_pos (show x < 0 ∨ y < 0 from .inr y0), if_pos (show (-1 : Int) < 0 ∨ z < 0 by omega)]
          · rw [if_neg (show ¬ (z + x < 0 ∨ y < 0) by omega), if_neg (show ¬ (x < 0 ∨ y < 0) by omega), if_neg (show ¬ (x + y < 0 ∨ z < 0) by omega)]; omega
    · rw [if_neg (show ¬ ((k + 1 : Nat) : Int) < nk r + 1 by omega), if_neg q]
theorem cosT_K {A : AD} : ∀ (R : TR) (k : Nat), nk R ≤ (k : Int) → cosT A R = cosK A R k
  | .leaf i, 0, _ => rfl
  | .leaf i, k + 1, _ => by
    have ih := cosT_K (A := A) (.leaf i) k (by show (0 : Int) ≤ _; omega)
    show cosT A (.leaf i) = if (k : Int) < 0 then _ else cosK A (.leaf i) k
    rw [if_neg (by omega)]; exact ih
  | .branch b s r, 0, l => by have e : nk (.branch b s r) = nk r + 1 := rfl; have := nk_0 r; omega
  | .branch b s r, k + 1, l => by
    have e : nk (.branch b s r) = nk r + 1 := rfl
    have ih := cosT_K (A := A) r k (by omega)
    rw [cosK_br, ← ih]
    rfl
/-- prices are from 1 to 9 -/
def pp9 (A : AD) : Prop := ∀ k, 0 ≤ k → k < A.2.2.2.1 → 1 ≤ A.2.2.2.2.2.2.2 k ∧ A.2.2.2.2.2.2.2 k ≤ 9
theorem prH_r {A : AD} (P : pp9 A) {i : NI} : ∀ n : Nat, (n : Int) ≤ A.2.2.2.1 → prH A i n = -1 ∨ (1 ≤ prH A i n ∧ prH A i n ≤ 9)
  | 0, _ => .inl rfl
  | n + 1, l => by
    have ih := prH_r P (i := i) n (by omega)
    have p := P n (by omega) (by omega)
    show cif (hdP A i n) (A.2.2.2.2.2.2.2 n) (prH A i n) = -1 ∨ (1 ≤ cif (hdP A i n) (A.2.2.2.2.2.2.2 n) (prH A i n) ∧ cif (hdP A i n) (A.2.2.2.2.2.2.2 n) (prH A i n) ≤ 9)
    by_cases y : hdP A i n
    · rw [cif_y y]; exact .inr p
    · rw [cif_n y]; exact ih
theorem prI_r {A : AD} (P : pp9 A) (n0 : 0 ≤ A.2.2.2.1) (i : NI) : prI A i = -1 ∨ (1 ≤ prI A i ∧ prI A i ≤ 9) := by
  unfold prI
  by_cases y : i.1 = 0
  · rw [if_pos y]; omega
  · rw [if_neg y]; exact prH_r P _ (by omega)
theorem cos_r {A : AD} (P : pp9 A) (n0 : 0 ≤ A.2.2.2.1) : ∀ R : TR, cosT A R = -1 ∨ (1 ≤ cosT A R ∧ cosT A R ≤ 9 * sz R)
  | .leaf i => by
    have q := prI_r P n0 i
    have e : cosT A (.leaf i) = prI A i := rfl
    have e2 : sz (.leaf i) = 1 := rfl
    rw [e, e2]; omega
  | .branch b s r => by
    have q1 := cos_r P n0 s
    have q2 := cos_r P n0 r
    have e2 : sz (.branch b s r) = sz s + sz r := rfl
    show (if cosT A r < 0 ∨ cosT A s < 0 then -1 else cosT A s + cosT A r) = -1 ∨ (1 ≤ (if cosT A r < 0 ∨ cosT A s < 0 then -1 else cosT A s + cosT A r) ∧ (if cosT A r < 0 ∨ cosT A s < 0 then -1 else cosT A s + cosT A r) ≤ 9 * sz (.branch b s r))
    by_cases y : cosT A r < 0 ∨ cosT A s < 0
    · rw [if_pos y]; exact .inl rfl
    · rw [if_neg y, e2]; omega
theorem cosK_r {A : AD} (P : pp9 A) (n0 : 0 ≤ A.2.2.2.1) (R : TR) : ∀ k : Nat, cosK A R k = -1 ∨ (1 ≤ cosK A R k ∧ cosK A R k ≤ 9 + 9 * kss sz R k)
  | 0 => by
    have q := prI_r P n0 (inf R)
    have e : cosK A R 0 = prI A (inf R) := rfl
    have e2 : kss sz R 0 = 0 := rfl
    rw [e, e2]; omega
  | k + 1 => by
    have ih := cosK_r P n0 R k
    have c := cos_r P n0 (kdA R k)
    show (if (k : Int) < nk R then (if cosK A R k < 0 ∨ cosT A (kdA R k) < 0 then -1 else cosK A R k + cosT A (kdA R k)) else cosK A R k) = -1 ∨ (1 ≤ (if (k : Int) < nk R then (if cosK A R k < 0 ∨ cosT A (kdA R k) < 0 then -1 else cosK A R k + cosT A (kdA R k)) else cosK A R k) ∧ (if (k : Int) < nk R then (if cosK A R k < 0 ∨ cosT A (kdA R k) < 0 then -1 else cosK A R k + cosT A (kdA R k)) else cosK A R k) ≤ 9 + 9 * (kss sz R k + (if (k : Int) < nk R then sz (kdA R k) else 0)))
    by_cases q : (k : Int) < nk R
    · rw [if_pos q, if_pos q]
      by_cases y : cosK A R k < 0 ∨ cosT A (kdA R k) < 0
      · rw [if_pos y]; exact .inl rfl
      · rw [if_neg y]; omega
    · rw [if_neg q, if_neg q]; omega
theorem cosK_s {A : AD} {R : TR} {k : Nat} (l : (k : Int) < nk R) : cosK A R (k + 1) = if cosK A R k < 0 ∨ cosT A (kdA R k) < 0 then -1 else cosK A R k + cosT A (kdA R k) := if_pos l
theorem cosK_n {A : AD} {R : TR} {k : Nat} (l : ¬ (k : Int) < nk R) : cosK A R (k + 1) = cosK A R k := if_neg l
theorem cosK_ng {A : AD} {R : TR} {k : Nat} (y : cosK A R k = -1) : ∀ m : Nat, k ≤ m → cosK A R m = -1
  | 0, l => by rw [← y, show k = 0 by omega]
  | m + 1, l => by
    by_cases q : k = m + 1
    · rw [← q]; exact y
    · have ih := cosK_ng y m (by omega)
      by_cases z : (m : Int) < nk R
      · rw [cosK_s z, if_pos (by omega)]
      · rw [cosK_n z]; exact ih
/-- its next operand: what the running price becomes -/
theorem cosK_st {A : AD} {R : TR} {a : Int} (a0 : 0 ≤ a) (l : a < nk R) (P : pp9 A) (n0 : 0 ≤ A.2.2.2.1) (c : ¬ cosK A R a.toNat < 0) : cosK A R (a + 1).toNat = if cosT A (kdA R a.toNat) < 0 then -1 else cosK A R a.toNat + cosT A (kdA R a.toNat) := by
  rw [show (a + 1).toNat = a.toNat + 1 by omega, cosK_s (by omega)]
  by_cases y : cosT A (kdA R a.toNat) < 0
  · rw [if_pos y, if_pos (.inr y)]
  · rw [if_neg y, if_neg (by omega)]
theorem szK_le {R : TR} {k : Nat} (l : (k : Int) < nk R) (n3 : nk R ≤ 3) : 1 + kss sz R k + sz (kdA R k) ≤ sz R := by
  have e := kss_s (g := sz) l
  have le := kss_le sz_0 R (k := k + 1) 3 (by omega)
  have z := kss_sz R 3 (by omega)
  omega
def CPX (F : Int → AH → Option Int) (h : AH) (A : AD) (k : Int) : Prop := ∀ (d : Int) (R : TR), trX h 324 0 2200 R d 0 → sz R ≤ 100000 → dpT R + 1 ≤ k → (∃ (E : EV) (np : Int) (kp : Int → Int), tyT E np kp R 0) → OK (F d h) (fun v => v = cosT A R)
theorem vX1_priceOf_l171 {F : Int → AH → Option (Int)} (i2 : Int) (a30 : Int) (a40 : Int) {h : AH} {k : Int} {R : TR} {A : AD} (hF : CPX F h A k) (P : pp9 A ∧ 0 ≤ A.2.2.2.1) (cp : capT h 324 2200) (t : trX h 324 0 2200 R i2 0) (s : sz R ≤ 100000) (dk : dpT R + 1 ≤ k + 1) (ty : ∃ (E : EV) (np : Int) (kp : Int → Int), tyT E np kp R 0) (z : a30 = prI A (inf R) ∧ a40 = 0) : OK (gX1_priceOf_l171 F i2 a30 a40 h) (fun v => v = cosT A R) := by
  unfold gX1_priceOf_l171
  refine OK_jit (I := (fun (s : Int × Int) => jt2 s fun a3 a4 => (0 ≤ a4 ∧ a4 ≤ 3) ∧ (a3 = cosK A R a4.toNat))) (m := (fun (s : Int × Int) => jt2 s fun a3 a4 => (3 - a4).toNat)) ?_ ?_
  · intro s hs
    obtain ⟨a3, a4⟩ := s
    dsimp only [Sum.elim_inl, Sum.elim_inr, jt2, jt3, jt4, jt5, jt6, jt7, jt8] at hs
    obtain ⟨q0, q1⟩ := hs
    unfold gX1_priceOf_b171
    refine OK_jt2 ?_
    have nd := trX_nd t
    have cr := cosK_r P.1 P.2 R a4.toNat
    have k0 := kss_0 (g := sz) (fun R => by have := sz_pos R; omega) R a4.toNat
    have kl0 := kss_le (g := sz) (fun R => by have := sz_pos R; omega) R (k := a4.toNat) 3 (by omega)
    have k3 := kss_sz R 3 (by have := nd.2.2.2.2.2 (by decide) (by decide); omega)
    refine OK_if (fun c1 => ?_) (fun c1 => ?_)
    · skip
      try simp (disch := omega) only [jst_eq, jst_ne, jst_ni, jI_i, jcmp_lt, jcmp_gt, w32_id, jcpy_out, Sum.elim_inl, Sum.elim_inr, jt2, jt3, jt4, jt5, jt6, jt7, jt8] at c1
      refine OK_ir ?_
      (rw [cosT_K R 3 (by have := nd.2.2.2.2.2 (by decide) (by decide); omega), q1, show a4 = 3 by omega]; rfl) -- o1 e1
    · skip
      try simp (disch := omega) only [jst_eq, jst_ne, jst_ni, jI_i, jcmp_lt, jcmp_gt, w32_id, jcpy_out, Sum.elim_inl, Sum.elim_inr, jt2, jt3, jt4, jt5, jt6, jt7, jt8] at c1
      have ea : ((a4.toNat : Nat) : Int) = a4 := by omega
      have no := trX_no t a4 q0.1
      refine OK_if (fun c2 => ?_) (fun c2 => ?_)
      · skip
        try simp (disch := omega) only [jst_eq, jst_ne, jst_ni, jI_i, jcmp_lt, jcmp_gt, w32_id, jcpy_out, Sum.elim_inl, Sum.elim_inr, jt2, jt3, jt4, jt5, jt6, jt7, jt8] at c2
        refine OK_ir ?_
        (rw [cosT_K R 3 (by have := nd.2.2.2.2.2 (by decide) (by decide); omega), cosK_ng (k := a4.toNat) (by omega) 3 (by omega)]; omega) -- o2 e2
      · skip
        try simp (disch := omega) only [jst_eq, jst_ne, jst_ni, jI_i, jcmp_lt, jcmp_gt, w32_id, jcpy_out, Sum.elim_inl, Sum.elim_inr, jt2, jt3, jt4, jt5, jt6, jt7, jt8] at c2
        refine OK_jb (vX3_part (M := 2200) _ _ _ (by (first | assumption | omega | ((try dsimp only [jt2, jt3, jt4]); first | omega | (simp (disch := omega) only [jst_eq, jst_ne, jst_ni, jst_o, jI_i, jcpy_out, w32_id, jdiv_nn, jshr_k, jand_255] <;> first | done | omega | assumption)) | (intros; simp (disch := omega) only [jst_eq, jst_ne, jst_ni, jst_o, jI_i, jcpy_out, w32_id, jdiv_nn, *] <;> first | done | omega) | (intros; simp (disch := omega) only [jst_eq, jst_ne, jst_ni, jst_o, jI_i, jcpy_out, w32_id, jdiv_nn] at * <;> first | done | omega | assumption) | (intros; first | rfl | (exfalso; omega) | ((repeat' apply And.intro) <;> first | assumption | rfl | omega | trivial)))) (by (first | assumption | omega | ((try dsimp only [jt2, jt3, jt4]); first | omega | (simp (disch := omega) only [jst_eq, jst_ne, jst_ni, jst_o, jI_i, jcpy_out, w32_id, jdiv_nn, jshr_k, jand_255] <;> first | done | omega | assumption)) | (intros; simp (disch := omega) only [jst_eq, jst_ne, jst_ni, jst_o, jI_i, jcpy_out, w32_id, jdiv_nn, *] <;> first | done | omega) | (intros; simp (disch := omega) only [jst_eq, jst_ne, jst_ni, jst_o, jI_i, jcpy_out, w32_id, jdiv_nn] at * <;> first | done | omega | assumption) | (intros; first | rfl | (exfalso; omega) | ((repeat' apply And.intro) <;> first | assumption | rfl | omega | trivial))))) (fun v20 r1 => ?_)
        try dsimp only [Sum.elim_inl, Sum.elim_inr, jt2, jt3, jt4, jt5, jt6, jt7, jt8] at r1
        have v1 := r1
        clear r1
        try simp (disch := omega) only [jst_eq, jst_ne, jst_ni, jI_i, jcmp_lt, jcmp_gt, w32_id, jcpy_out, Sum.elim_inl, Sum.elim_inr, jt2, jt3, jt4, jt5, jt6, jt7, jt8] at v1
        rw [if_neg (by omega)] at v1
        refine OK_if (fun c3 => ?_) (fun c3 => ?_)
        · skip
          try simp (disch := omega) only [jst_eq, jst_ne, jst_ni, jI_i, jcmp_lt, jcmp_gt, w32_id, jcpy_out, Sum.elim_inl, Sum.elim_inr, jt2, jt3, jt4, jt5, jt6, jt7, jt8] at c3
          have lk : a4 < nk R := Classical.byContradiction fun y => by { have := no (by omega) (by omega); omega }
          have kt := trX_kd a4.toNat t (by omega)
          have kd := dpT_kd R a4.toNat (by omega)
          rw [ea, Int.zero_add] at kt
          have st := cosK_st q0.1 lk P.1 P.2 (by omega)
          have sk := szK_le (R := R) (k := a4.toNat) (by omega) (by have := nd.2.2.2.2.2 (by decide) (by decide); omega)
          refine OK_jb (vX3_part (M := 2200) _ _ _ (by (first | assumption | omega | ((try dsimp only [jt2, jt3, jt4]); first | omega | (simp (disch := omega) only [jst_eq, jst_ne, jst_ni, jst_o, jI_i, jcpy_out, w32_id, jdiv_nn, jshr_k, jand_255] <;> first | done | omega | assumption)) | (intros; simp (disch := omega) only [jst_eq, jst_ne, jst_ni, jst_o, jI_i, jcpy_out, w32_id, jdiv_nn, *] <;> first | done | omega) | (intros; simp (disch := omega) only [jst_eq, jst_ne, jst_ni, jst_o, jI_i, jcpy_out, w32_id, jdiv_nn] at * <;> first | done | omega | assumption) | (intros; first | rfl | (exfalso; omega) | ((repeat' apply And.intro) <;> first | assumption | rfl | omega | trivial)))) (by (first | assumption | omega | ((try dsimp only [jt2, jt3, jt4]); first | omega | (simp (disch := omega) only [jst_eq, jst_ne, jst_ni, jst_o, jI_i, jcpy_out, w32_id, jdiv_nn, jshr_k, jand_255] <;> first | done | omega | assumption)) | (intros; simp (disch := omega) only [jst_eq, jst_ne, jst_ni, jst_o, jI_i, jcpy_out, w32_id, jdiv_nn, *] <;> first | done | omega) | (intros; simp (disch := omega) only [jst_eq, jst_ne, jst_ni, jst_o, jI_i, jcpy_out, w32_id, jdiv_nn] at * <;> first | done | omega | assumption) | (intros; first | rfl | (exfalso; omega) | ((repeat' apply And.intro) <;> first | assumption | rfl | omega | trivial))))) (fun v23 r2 => ?_)
          try dsimp only [Sum.elim_inl, Sum.elim_inr, jt2, jt3, jt4, jt5, jt6, jt7, jt8] at r2
          have v2 := r2
          clear r2
          try simp (disch := omega) only [jst_eq, jst_ne, jst_ni, jI_i, jcmp_lt, jcmp_gt, w32_id, jcpy_out, Sum.elim_inl, Sum.elim_inr, jt2, jt3, jt4, jt5, jt6, jt7, jt8] at v2
          rw [if_neg (by omega)] at v2
          refine OK_jb (hF _ (kdA R a4.toNat) (by (rw [v2]; exact kt)) (by omega) (by omega) (by exact (match ty with | ⟨E, np, kp, y⟩ => ⟨E, np, kp, (tyT_kd a4.toNat y (by omega)).1⟩))) (fun v25 r3 => ?_)
          try dsimp only [Sum.elim_inl, Sum.elim_inr, jt2, jt3, jt4, jt5, jt6, jt7, jt8] at r3
          have sv3 := r3
          clear r3
          try simp (disch := omega) only [jst_eq, jst_ne, jst_ni, jI_i, jcmp_lt, jcmp_gt, w32_id, jcpy_out, Sum.elim_inl, Sum.elim_inr, jt2, jt3, jt4, jt5, jt6, jt7, jt8] at sv3
          refine OK_if (fun c4 => ?_) (fun c4 => ?_)
          · skip
            try simp (disch := omega) only [jst_eq, jst_ne, jst_ni, jI_i, jcmp_lt, jcmp_gt, w32_id, jcpy_out, Sum.elim_inl, Sum.elim_inr, jt2, jt3, jt4, jt5, jt6, jt7, jt8] at c4
            have crk := cos_r P.1 P.2 (kdA R a4.toNat)
            have w27 : w32 (a3 + v25) = a3 + v25 := w32_id (by omega) (by omega)
            refine OK_jlx (fun x27 ex27 => ?_)
            try simp (disch := omega) only [jst_eq, jst_ne, jst_ni, jI_i, jcmp_lt, jcmp_gt, w32_id, jcpy_out, Sum.elim_inl, Sum.elim_inr, jt2, jt3, jt4, jt5, jt6, jt7, jt8] at ex27
            unfold gX1_priceOf_j222_171
            refine OK_jlx (fun x28 ex28 => ?_)
            try simp (disch := omega) only [jst_eq, jst_ne, jst_ni, jI_i, jcmp_lt, jcmp_gt, w32_id, jcpy_out, Sum.elim_inl, Sum.elim_inr, jt2, jt3, jt4, jt5, jt6, jt7, jt8] at ex28
            refine OK_il ?_ ?_
            · try dsimp only [Sum.elim_inl, Sum.elim_inr, jt2, jt3, jt4, jt5, jt6, jt7, jt8]
              refine ⟨?_, ?_⟩
              · (first | assumption | omega | ((try dsimp only [jt2, jt3, jt4]); first | omega | (simp (disch := omega) only [jst_eq, jst_ne, jst_ni, jst_o, jI_i, jcpy_out, w32_id, jdiv_nn, jshr_k, jand_255] <;> first | done | omega | assumption)) | (intros; simp (disch := omega) only [jst_eq, jst_ne, jst_ni, jst_o, jI_i, jcpy_out, w32_id, jdiv_nn, *] <;> first | done | omega) | (intros; simp (disch := omega) only [jst_eq, jst_ne, jst_ni, jst_o, jI_i, jcpy_out, w32_id, jdiv_nn] at * <;> first | done | omega | assumption) | (intros; first | rfl | (exfalso; omega) | ((repeat' apply And.intro) <;> first | assumption | rfl | omega | trivial))) -- o11 e3i.1
              · (rw [ex28, st, if_neg (by omega)]; omega) -- o12 e3i.2
            · (first | assumption | omega | ((try dsimp only [jt2, jt3, jt4]); first | omega | (simp (disch := omega) only [jst_eq, jst_ne, jst_ni, jst_o, jI_i, jcpy_out, w32_id, jdiv_nn, jshr_k, jand_255] <;> first | done | omega | assumption)) | (intros; simp (disch := omega) only [jst_eq, jst_ne, jst_ni, jst_o, jI_i, jcpy_out, w32_id, jdiv_nn, *] <;> first | done | omega) | (intros; simp (disch := omega) only [jst_eq, jst_ne, jst_ni, jst_o, jI_i, jcpy_out, w32_id, jdiv_nn] at * <;> first | done | omega | assumption) | (intros; first | rfl | (exfalso; omega) | ((repeat' apply And.intro) <;> first | assumption | rfl | omega | trivial))) -- o13 e3m
          · skip
            try simp (disch := omega) only [jst_eq, jst_ne, jst_ni, jI_i, jcmp_lt, jcmp_gt, w32_id, jcpy_out, Sum.elim_inl, Sum.elim_inr, jt2, jt3, jt4, jt5, jt6, jt7, jt8] at c4
            unfold gX1_priceOf_j222_171
            refine OK_jlx (fun x28 ex28 => ?_)
            try simp (disch := omega) only [jst_eq, jst_ne, jst_ni, jI_i, jcmp_lt, jcmp_gt, w32_id, jcpy_out, Sum.elim_inl, Sum.elim_inr, jt2, jt3, jt4, jt5, jt6, jt7, jt8] at ex28
            refine OK_il ?_ ?_
            · try dsimp only [Sum.elim_inl, Sum.elim_inr, jt2, jt3, jt4, jt5, jt6, jt7, jt8]
              refine ⟨?_, ?_⟩
              · (first | assumption | omega | ((try dsimp only [jt2, jt3, jt4]); first | omega | (simp (disch := omega) only [jst_eq, jst_ne, jst_ni, jst_o, jI_i, jcpy_out, w32_id, jdiv_nn, jshr_k, jand_255] <;> first | done | omega | assumption)) | (intros; simp (disch := omega) only [jst_eq, jst_ne, jst_ni, jst_o, jI_i, jcpy_out, w32_id, jdiv_nn, *] <;> first | done | omega) | (intros; simp (disch := omega) only [jst_eq, jst_ne, jst_ni, jst_o, jI_i, jcpy_out, w32_id, jdiv_nn] at * <;> first | done | omega | assumption) | (intros; first | rfl | (exfalso; omega) | ((repeat' apply And.intro) <;> first | assumption | rfl | omega | trivial))) -- o14 e4i.1
              · (rw [ex28, st, if_pos (by omega)]) -- o15 e4i.2
            · (first | assumption | omega | ((try dsimp only [jt2, jt3, jt4]); first | omega | (simp (disch := omega) only [jst_eq, jst_ne, jst_ni, jst_o, jI_i, jcpy_out, w32_id, jdiv_nn, jshr_k, jand_255] <;> first | done | omega | assumption)) | (intros; simp (disch := omega) only [jst_eq, jst_ne, jst_ni, jst_o, jI_i, jcpy_out, w32_id, jdiv_nn, *] <;> first | done | omega) | (intros; simp (disch := omega) only [jst_eq, jst_ne, jst_ni, jst_o, jI_i, jcpy_out, w32_id, jdiv_nn] at * <;> first | done | omega | assumption) | (intros; first | rfl | (exfalso; omega) | ((repeat' apply And.intro) <;> first | assumption | rfl | omega | trivial))) -- o16 e4m
        · skip
          try simp (disch := omega) only [jst_eq, jst_ne, jst_ni, jI_i, jcmp_lt, jcmp_gt, w32_id, jcpy_out, Sum.elim_inl, Sum.elim_inr, jt2, jt3, jt4, jt5, jt6, jt7, jt8] at c3
          have lk : ¬ a4 < nk R := fun y => by { have q := (trX_nd (trX_kd a4.toNat t (by omega))).1; rw [ea, Int.zero_add] at q; omega }
          unfold gX1_priceOf_j222_171
          refine OK_jlx (fun x28 ex28 => ?_)
          try simp (disch := omega) only [jst_eq, jst_ne, jst_ni, jI_i, jcmp_lt, jcmp_gt, w32_id, jcpy_out, Sum.elim_inl, Sum.elim_inr, jt2, jt3, jt4, jt5, jt6, jt7, jt8] at ex28
          refine OK_il ?_ ?_
          · try dsimp only [Sum.elim_inl, Sum.elim_inr, jt2, jt3, jt4, jt5, jt6, jt7, jt8]
            refine ⟨?_, ?_⟩
            · (first | assumption | omega | ((try dsimp only [jt2, jt3, jt4]); first | omega | (simp (disch := omega) only [jst_eq, jst_ne, jst_ni, jst_o, jI_i, jcpy_out, w32_id, jdiv_nn, jshr_k, jand_255] <;> first | done | omega | assumption)) | (intros; simp (disch := omega) only [jst_eq, jst_ne, jst_ni, jst_o, jI_i, jcpy_out, w32_id, jdiv_nn, *] <;> first | done | omega) | (intros; simp (disch := omega) only [jst_eq, jst_ne, jst_ni, jst_o, jI_i, jcpy_out, w32_id, jdiv_nn] at * <;> first | done | omega | assumption) | (intros; first | rfl | (exfalso; omega) | ((repeat' apply And.intro) <;> first | assumption | rfl | omega | trivial))) -- o17 e5i.1
            · (rw [ex28, show (a4 + 1).toNat = a4.toNat + 1 by omega, cosK_n (by omega)]; exact q1) -- o18 e5i.2
          · (first | assumption | omega | ((try dsimp only [jt2, jt3, jt4]); first | omega | (simp (disch := omega) only [jst_eq, jst_ne, jst_ni, jst_o, jI_i, jcpy_out, w32_id, jdiv_nn, jshr_k, jand_255] <;> first | done | omega | assumption)) | (intros; simp (disch := omega) only [jst_eq, jst_ne, jst_ni, jst_o, jI_i, jcpy_out, w32_id, jdiv_nn, *] <;> first | done | omega) | (intros; simp (disch := omega) only [jst_eq, jst_ne, jst_ni, jst_o, jI_i, jcpy_out, w32_id, jdiv_nn] at * <;> first | done | omega | assumption) | (intros; first | rfl | (exfalso; omega) | ((repeat' apply And.intro) <;> first | assumption | rfl | omega | trivial))) -- o19 e5m
  · try dsimp only [Sum.elim_inl, Sum.elim_inr, jt2, jt3, jt4, jt5, jt6, jt7, jt8]
    refine ⟨?_, ?_⟩
    · (first | assumption | omega | ((try dsimp only [jt2, jt3, jt4]); first | omega | (simp (disch := omega) only [jst_eq, jst_ne, jst_ni, jst_o, jI_i, jcpy_out, w32_id, jdiv_nn, jshr_k, jand_255] <;> first | done | omega | assumption)) | (intros; simp (disch := omega) only [jst_eq, jst_ne, jst_ni, jst_o, jI_i, jcpy_out, w32_id, jdiv_nn, *] <;> first | done | omega) | (intros; simp (disch := omega) only [jst_eq, jst_ne, jst_ni, jst_o, jI_i, jcpy_out, w32_id, jdiv_nn] at * <;> first | done | omega | assumption) | (intros; first | rfl | (exfalso; omega) | ((repeat' apply And.intro) <;> first | assumption | rfl | omega | trivial))) -- o20 init.1
    · (rw [z.1, z.2]; rfl) -- o21 init.2
theorem vX1_priceOf_ {F : Int → AH → Option (Int)} (a2 : Int) {h : AH} {k : Int} {R : TR} {A : AD} (hF : CPX F h A k) (x : pcXA h A) (P : pp9 A) (cp : capT h 324 2200) (t : trX h 324 0 2200 R a2 0) (s : sz R ≤ 100000) (dk : dpT R + 1 ≤ k + 1) (ty : ∃ (E : EV) (np : Int) (kp : Int → Int), tyT E np kp R 0) : OK (gX1_priceOf_ F a2 h) (fun v => v = cosT A R) := by
  have nd := trX_nd t
  have S1 : h 325 a2 = (inf R).1 := nd.2.2.1
  have x3 := x.2.2.1
  unfold gX1_priceOf_
  refine OK_jg (by (first | assumption | omega | ((try dsimp only [jt2, jt3, jt4]); first | omega | (simp (disch := omega) only [jst_eq, jst_ne, jst_ni, jst_o, jI_i, jcpy_out, w32_id, jdiv_nn, jshr_k, jand_255] <;> first | done | omega | assumption)) | (intros; simp (disch := omega) only [jst_eq, jst_ne, jst_ni, jst_o, jI_i, jcpy_out, w32_id, jdiv_nn, *] <;> first | done | omega) | (intros; simp (disch := omega) only [jst_eq, jst_ne, jst_ni, jst_o, jI_i, jcpy_out, w32_id, jdiv_nn] at * <;> first | done | omega | assumption) | (intros; first | rfl | (exfalso; omega) | ((repeat' apply And.intro) <;> first | assumption | rfl | omega | trivial)))) ?_ -- o1
  refine OK_if (fun c1 => ?_) (fun c1 => ?_)
  · skip
    try simp (disch := omega) only [jst_eq, jst_ne, jst_ni, jI_i, jcmp_lt, jcmp_gt, w32_id, jcpy_out, Sum.elim_inl, Sum.elim_inr, jt2, jt3, jt4, jt5, jt6, jt7, jt8] at c1
    refine OK_some ?_
    try dsimp only [Sum.elim_inl, Sum.elim_inr, jt2, jt3, jt4, jt5, jt6, jt7, jt8]
    (have n0 : nk R = 0 := by { obtain ⟨E, np, kp, y⟩ := ty; have q := tyT_nd y; unfold tyI at q; have := nk_0 R; omega }; rw [cosT_K R 0 (by omega)]; show (1 : Int) = prI A (inf R); unfold prI; rw [if_pos (by omega)]) -- o2 e1
  · skip
    try simp (disch := omega) only [jst_eq, jst_ne, jst_ni, jI_i, jcmp_lt, jcmp_gt, w32_id, jcpy_out, Sum.elim_inl, Sum.elim_inr, jt2, jt3, jt4, jt5, jt6, jt7, jt8] at c1
    refine OK_jb (vX1_priceOf_l16 (A := A) (i := inf R) _ _ _ (by (first | assumption | omega | ((try dsimp only [jt2, jt3, jt4]); first | omega | (simp (disch := omega) only [jst_eq, jst_ne, jst_ni, jst_o, jI_i, jcpy_out, w32_id, jdiv_nn, jshr_k, jand_255] <;> first | done | omega | assumption)) | (intros; simp (disch := omega) only [jst_eq, jst_ne, jst_ni, jst_o, jI_i, jcpy_out, w32_id, jdiv_nn, *] <;> first | done | omega) | (intros; simp (disch := omega) only [jst_eq, jst_ne, jst_ni, jst_o, jI_i, jcpy_out, w32_id, jdiv_nn] at * <;> first | done | omega | assumption) | (intros; first | rfl | (exfalso; omega) | ((repeat' apply And.intro) <;> first | assumption | rfl | omega | trivial)))) (by (first | assumption | omega | ((try dsimp only [jt2, jt3, jt4]); first | omega | (simp (disch := omega) only [jst_eq, jst_ne, jst_ni, jst_o, jI_i, jcpy_out, w32_id, jdiv_nn, jshr_k, jand_255] <;> first | done | omega | assumption)) | (intros; simp (disch := omega) only [jst_eq, jst_ne, jst_ni, jst_o, jI_i, jcpy_out, w32_id, jdiv_nn, *] <;> first | done | omega) | (intros; simp (disch := omega) only [jst_eq, jst_ne, jst_ni, jst_o, jI_i, jcpy_out, w32_id, jdiv_nn] at * <;> first | done | omega | assumption) | (intros; first | rfl | (exfalso; omega) | ((repeat' apply And.intro) <;> first | assumption | rfl | omega | trivial)))) (by exact ⟨nd.2.2.1, nd.2.2.2.1, nd.2.2.2.2.1⟩) (by (first | assumption | omega | ((try dsimp only [jt2, jt3, jt4]); first | omega | (simp (disch := omega) only [jst_eq, jst_ne, jst_ni, jst_o, jI_i, jcpy_out, w32_id, jdiv_nn, jshr_k, jand_255] <;> first | done | omega | assumption)) | (intros; simp (disch := omega) only [jst_eq, jst_ne, jst_ni, jst_o, jI_i, jcpy_out, w32_id, jdiv_nn, *] <;> first | done | omega) | (intros; simp (disch := omega) only [jst_eq, jst_ne, jst_ni, jst_o, jI_i, jcpy_out, w32_id, jdiv_nn] at * <;> first | done | omega | assumption) | (intros; first | rfl | (exfalso; omega) | ((repeat' apply And.intro) <;> first | assumption | rfl | omega | trivial))))) (fun o2 r1 => ?_)
    try dsimp only [Sum.elim_inl, Sum.elim_inr, jt2, jt3, jt4, jt5, jt6, jt7, jt8] at r1
    have v1 := r1
    clear r1
    try simp (disch := omega) only [jst_eq, jst_ne, jst_ni, jI_i, jcmp_lt, jcmp_gt, w32_id, jcpy_out, Sum.elim_inl, Sum.elim_inr, jt2, jt3, jt4, jt5, jt6, jt7, jt8] at v1
    refine OK_jb (vX1_priceOf_l171 (A := A) (R := R) (k := k) _ _ _ (by (first | assumption | omega | ((try dsimp only [jt2, jt3, jt4]); first | omega | (simp (disch := omega) only [jst_eq, jst_ne, jst_ni, jst_o, jI_i, jcpy_out, w32_id, jdiv_nn, jshr_k, jand_255] <;> first | done | omega | assumption)) | (intros; simp (disch := omega) only [jst_eq, jst_ne, jst_ni, jst_o, jI_i, jcpy_out, w32_id, jdiv_nn, *] <;> first | done | omega) | (intros; simp (disch := omega) only [jst_eq, jst_ne, jst_ni, jst_o, jI_i, jcpy_out, w32_id, jdiv_nn] at * <;> first | done | omega | assumption) | (intros; first | rfl | (exfalso; omega) | ((repeat' apply And.intro) <;> first | assumption | rfl | omega | trivial)))) (by (first | assumption | omega | ((try dsimp only [jt2, jt3, jt4]); first | omega | (simp (disch := omega) only [jst_eq, jst_ne, jst_ni, jst_o, jI_i, jcpy_out, w32_id, jdiv_nn, jshr_k, jand_255] <;> first | done | omega | assumption)) | (intros; simp (disch := omega) only [jst_eq, jst_ne, jst_ni, jst_o, jI_i, jcpy_out, w32_id, jdiv_nn, *] <;> first | done | omega) | (intros; simp (disch := omega) only [jst_eq, jst_ne, jst_ni, jst_o, jI_i, jcpy_out, w32_id, jdiv_nn] at * <;> first | done | omega | assumption) | (intros; first | rfl | (exfalso; omega) | ((repeat' apply And.intro) <;> first | assumption | rfl | omega | trivial)))) (by (first | assumption | omega | ((try dsimp only [jt2, jt3, jt4]); first | omega | (simp (disch := omega) only [jst_eq, jst_ne, jst_ni, jst_o, jI_i, jcpy_out, w32_id, jdiv_nn, jshr_k, jand_255] <;> first | done | omega | assumption)) | (intros; simp (disch := omega) only [jst_eq, jst_ne, jst_ni, jst_o, jI_i, jcpy_out, w32_id, jdiv_nn, *] <;> first | done | omega) | (intros; simp (disch := omega) only [jst_eq, jst_ne, jst_ni, jst_o, jI_i, jcpy_out, w32_id, jdiv_nn] at * <;> first | done | omega | assumption) | (intros; first | rfl | (exfalso; omega) | ((repeat' apply And.intro) <;> first | assumption | rfl | omega | trivial)))) (by (first | assumption | omega | ((try dsimp only [jt2, jt3, jt4]); first | omega | (simp (disch := omega) only [jst_eq, jst_ne, jst_ni, jst_o, jI_i, jcpy_out, w32_id, jdiv_nn, jshr_k, jand_255] <;> first | done | omega | assumption)) | (intros; simp (disch := omega) only [jst_eq, jst_ne, jst_ni, jst_o, jI_i, jcpy_out, w32_id, jdiv_nn, *] <;> first | done | omega) | (intros; simp (disch := omega) only [jst_eq, jst_ne, jst_ni, jst_o, jI_i, jcpy_out, w32_id, jdiv_nn] at * <;> first | done | omega | assumption) | (intros; first | rfl | (exfalso; omega) | ((repeat' apply And.intro) <;> first | assumption | rfl | omega | trivial)))) (by (first | assumption | omega | ((try dsimp only [jt2, jt3, jt4]); first | omega | (simp (disch := omega) only [jst_eq, jst_ne, jst_ni, jst_o, jI_i, jcpy_out, w32_id, jdiv_nn, jshr_k, jand_255] <;> first | done | omega | assumption)) | (intros; simp (disch := omega) only [jst_eq, jst_ne, jst_ni, jst_o, jI_i, jcpy_out, w32_id, jdiv_nn, *] <;> first | done | omega) | (intros; simp (disch := omega) only [jst_eq, jst_ne, jst_ni, jst_o, jI_i, jcpy_out, w32_id, jdiv_nn] at * <;> first | done | omega | assumption) | (intros; first | rfl | (exfalso; omega) | ((repeat' apply And.intro) <;> first | assumption | rfl | omega | trivial)))) (by (first | assumption | omega | ((try dsimp only [jt2, jt3, jt4]); first | omega | (simp (disch := omega) only [jst_eq, jst_ne, jst_ni, jst_o, jI_i, jcpy_out, w32_id, jdiv_nn, jshr_k, jand_255] <;> first | done | omega | assumption)) | (intros; simp (disch := omega) only [jst_eq, jst_ne, jst_ni, jst_o, jI_i, jcpy_out, w32_id, jdiv_nn, *] <;> first | done | omega) | (intros; simp (disch := omega) only [jst_eq, jst_ne, jst_ni, jst_o, jI_i, jcpy_out, w32_id, jdiv_nn] at * <;> first | done | omega | assumption) | (intros; first | rfl | (exfalso; omega) | ((repeat' apply And.intro) <;> first | assumption | rfl | omega | trivial)))) (by (first | assumption | omega | ((try dsimp only [jt2, jt3, jt4]); first | omega | (simp (disch := omega) only [jst_eq, jst_ne, jst_ni, jst_o, jI_i, jcpy_out, w32_id, jdiv_nn, jshr_k, jand_255] <;> first | done | omega | assumption)) | (intros; simp (disch := omega) only [jst_eq, jst_ne, jst_ni, jst_o, jI_i, jcpy_out, w32_id, jdiv_nn, *] <;> first | done | omega) | (intros; simp (disch := omega) only [jst_eq, jst_ne, jst_ni, jst_o, jI_i, jcpy_out, w32_id, jdiv_nn] at * <;> first | done | omega | assumption) | (intros; first | rfl | (exfalso; omega) | ((repeat' apply And.intro) <;> first | assumption | rfl | omega | trivial)))) (by exact ⟨by (unfold prI; rw [if_neg (by omega)]; assumption), rfl⟩)) (fun o4 r2 => ?_)
    try dsimp only [Sum.elim_inl, Sum.elim_inr, jt2, jt3, jt4, jt5, jt6, jt7, jt8] at r2
    have sv2 := r2
    clear r2
    try simp (disch := omega) only [jst_eq, jst_ne, jst_ni, jI_i, jcmp_lt, jcmp_gt, w32_id, jcpy_out, Sum.elim_inl, Sum.elim_inr, jt2, jt3, jt4, jt5, jt6, jt7, jt8] at sv2
    refine OK_some ?_
    try dsimp only [Sum.elim_inl, Sum.elim_inr, jt2, jt3, jt4, jt5, jt6, jt7, jt8]
    (first | assumption | omega | ((try dsimp only [jt2, jt3, jt4]); first | omega | (simp (disch := omega) only [jst_eq, jst_ne, jst_ni, jst_o, jI_i, jcpy_out, w32_id, jdiv_nn, jshr_k, jand_255] <;> first | done | omega | assumption)) | (intros; simp (disch := omega) only [jst_eq, jst_ne, jst_ni, jst_o, jI_i, jcpy_out, w32_id, jdiv_nn, *] <;> first | done | omega) | (intros; simp (disch := omega) only [jst_eq, jst_ne, jst_ni, jst_o, jI_i, jcpy_out, w32_id, jdiv_nn] at * <;> first | done | omega | assumption) | (intros; first | rfl | (exfalso; omega) | ((repeat' apply And.intro) <;> first | assumption | rfl | omega | trivial))) -- o15 e2
theorem CPX_D {h : AH} {A : AD} (x : pcXA h A) (P : pp9 A) (cp : capT h 324 2200) : ∀ D : Nat, CPX (gX1_priceOfD D) h A D
  | 0 => fun d R _ _ dk _ => by have := dpT_0 R; omega
  | D + 1 => fun d R t s dk ty => vX1_priceOf_ d (CPX_D x P cp D) x P cp t s (by omega) ty
theorem vX1_priceOf (a2 : Int) {h : AH} {A : AD} {R : TR} (x : pcXA h A) (P : pp9 A) (cp : capT h 324 2200) (t : trX h 324 0 2200 R a2 0) (s : sz R ≤ 100000) (dk : dpT R ≤ 39) (ty : ∃ (E : EV) (np : Int) (kp : Int → Int), tyT E np kp R 0) : OK (gX1_priceOf a2 h) (fun v => v = cosT A R) := CPX_D x P cp 40 a2 R t s (by omega) ty

