/-! m: ranks of functions, what acts make of them -/
def cKd (kd : Int → Int) (c : Int) : Nat → Int
  | 0 => 0
  | n + 1 => cKd kd c n + (if kd n = c then 1 else 0)
section RANKS
variable {kd : Int → Int} {c : Int}
theorem cKd_m {n : Nat} : ∀ m : Nat, n ≤ m → cKd kd c n ≤ cKd kd c m
  | 0, l => by rw [show n = 0 by omega]; exact Int.le_refl _
  | m + 1, l => by
    by_cases y : n = m + 1
    · rw [y]; exact Int.le_refl _
    · have := cKd_m m (show n ≤ m by omega)
      show cKd kd c n ≤ cKd kd c m + (if kd m = c then 1 else 0)
      split <;> omega
theorem cKd_0 (n : Nat) : 0 ≤ cKd kd c n := cKd_m (n := 0) n (by omega)
theorem cKd_lt {k : Int} {m : Nat} (k0 : 0 ≤ k) (l : k < m) (e : kd k = c) : cKd kd c k.toNat < cKd kd c m := by
  have s : cKd kd c (k.toNat + 1) = cKd kd c k.toNat + 1 := by
    show cKd kd c k.toNat + (if kd ((k.toNat : Nat) : Int) = c then 1 else 0) = _
    rw [show ((k.toNat : Nat) : Int) = k by omega, if_pos e]
  have := cKd_m (kd := kd) (c := c) (n := k.toNat + 1) m (by omega)
  omega
theorem cKd_i {k k' : Int} (k0 : 0 ≤ k) (k1 : 0 ≤ k') (a : kd k = c) (b : kd k' = c) (e : cKd kd c k.toNat = cKd kd c k'.toNat) : k = k' := by
  rcases Int.lt_trichotomy k k' with l | l | l
  · have := cKd_lt (m := k'.toNat) k0 (by omega) a; omega
  · exact l
  · have := cKd_lt (m := k.toNat) k1 (by omega) b; omega
theorem cKd_3 : ∀ n : Nat, (∀ j, 0 ≤ j → j < (n : Int) → 0 ≤ kd j ∧ kd j ≤ 2) → cKd kd 0 n + cKd kd 1 n + cKd kd 2 n = n
  | 0, _ => rfl
  | n + 1, h => by
    have i := cKd_3 n (fun j a b => h j a (by omega))
    have k := h n (by omega) (by omega)
    show (cKd kd 0 n + (if kd n = 0 then 1 else 0)) + (cKd kd 1 n + (if kd n = 1 then 1 else 0)) + (cKd kd 2 n + (if kd n = 2 then 1 else 0)) = _
    rcases (show kd n = 0 ∨ kd n = 1 ∨ kd n = 2 by omega) with e | e | e
    · rw [if_pos e, if_neg (by omega), if_neg (by omega)]; omega
    · rw [if_neg (by omega), if_pos e, if_neg (by omega)]; omega
    · rw [if_neg (by omega), if_neg (by omega), if_pos e]; omega
end RANKS
theorem dig_i {w a b a' b' : Int} (b0 : 0 ≤ b ∧ b < w) (b1 : 0 ≤ b' ∧ b' < w) (e : a * w + b = a' * w + b') : a = a' ∧ b = b' := by
  rcases Int.lt_trichotomy a a' with l | l | l
  · have := Int.mul_le_mul_of_nonneg_right (show a + 1 ≤ a' by omega) (show 0 ≤ w by omega)
    rw [Int.add_mul, Int.one_mul] at this
    omega
  · subst l; exact ⟨rfl, by omega⟩
  · have := Int.mul_le_mul_of_nonneg_right (show a' + 1 ≤ a by omega) (show 0 ≤ w by omega)
    rw [Int.add_mul, Int.one_mul] at this
    omega
theorem cub_b : ∀ m : Nat, m ≤ 120 → (120 - m) * (m * m) ≤ 256000 := by decide +kernel
/-- three functions, in a row of places -/
def a3H (kd : Int → Int) (N : Nat) (k : Int) : Int := if k = 0 then 0 else cKd kd 1 N * cKd kd 0 N * cKd kd 0 N
def a3M (kd : Int → Int) (N : Nat) (x y z : Int) : Int := a3H kd N (kd y) + (cKd kd 1 x.toNat * cKd kd (kd y) N + cKd kd (kd y) y.toNat) * cKd kd (kd y) N + cKd kd (kd y) z.toNat
def v3M (kd : Int → Int) (N x y z : Int) : Prop := (0 ≤ x ∧ x < N) ∧ (0 ≤ y ∧ y < N) ∧ (0 ≤ z ∧ z < N) ∧ kd x = 1 ∧ kd z = kd y ∧ (kd y = 0 ∨ kd y = 2)
theorem dig_b {w n a b c : Int} (a0 : 0 ≤ a ∧ a < n) (b0 : 0 ≤ b ∧ b < w) (c0 : 0 ≤ c ∧ c < w) : 0 ≤ (a * w + b) * w + c ∧ (a * w + b) * w + c < n * w * w ∧ 0 ≤ a * w + b ∧ a * w + b < n * w := by
  have p1 := Int.mul_le_mul_of_nonneg_right (show a + 1 ≤ n by omega) (show 0 ≤ w by omega)
  rw [Int.add_mul, Int.one_mul] at p1
  have p0 := Int.mul_nonneg a0.1 (show 0 ≤ w by omega)
  have q1 := Int.mul_le_mul_of_nonneg_right (show a * w + b + 1 ≤ n * w by omega) (show 0 ≤ w by omega)
  rw [Int.add_mul, Int.one_mul] at q1
  have q0 := Int.mul_nonneg (show 0 ≤ a * w + b by omega) (show 0 ≤ w by omega)
  omega
theorem sq_b {a b c : Int} (a0 : 0 ≤ a) (b0 : 0 ≤ b) (c0 : 0 ≤ c) (s : a + b + c ≤ 120) : b * a * a + b * c * c ≤ 256000 ∧ 0 ≤ b * a * a ∧ 0 ≤ b * c * c := by
  have e : b * a * a + b * c * c + 2 * (b * (a * c)) = b * ((a + c) * (a + c)) := by
    rw [Int.mul_assoc b a a, Int.mul_assoc b c c, ← Int.mul_add, Int.add_mul, Int.mul_add a a c, Int.mul_add c a c, Int.mul_comm c a, Int.mul_left_comm 2 b, ← Int.mul_add]
    congr 1
    omega
  have p := Int.mul_nonneg b0 (Int.mul_nonneg a0 c0)
  have q1 := Int.mul_nonneg (Int.mul_nonneg b0 a0) a0
  have q2 := Int.mul_nonneg (Int.mul_nonneg b0 c0) c0
  have m0 : 0 ≤ a + c := by omega
  have t := cub_b (a + c).toNat (by omega)
  have t2 : (120 - (a + c)) * ((a + c) * (a + c)) ≤ 256000 := by
    have e1 : ((120 - (a + c).toNat : Nat) : Int) = 120 - (a + c) := by omega
    have e2 : (((a + c).toNat : Nat) : Int) = a + c := by omega
    have t3 : (((120 - (a + c).toNat) * ((a + c).toNat * (a + c).toNat) : Nat) : Int) ≤ ((256000 : Nat) : Int) := Int.ofNat_le.2 t
    rw [Int.natCast_mul, Int.natCast_mul, e1, e2] at t3
    exact t3
  have u := Int.mul_le_mul_of_nonneg_right (show b ≤ 120 - (a + c) by omega) (Int.mul_nonneg m0 m0)
  omega
section A3S
variable {kd : Int → Int} {N : Nat} {x y z x' y' z' : Int}
theorem a3_p (v : v3M kd N x y z) : (0 ≤ cKd kd 1 x.toNat ∧ cKd kd 1 x.toNat < cKd kd 1 N) ∧ (0 ≤ cKd kd (kd y) y.toNat ∧ cKd kd (kd y) y.toNat < cKd kd (kd y) N) ∧ (0 ≤ cKd kd (kd y) z.toNat ∧ cKd kd (kd y) z.toNat < cKd kd (kd y) N) := by
  obtain ⟨v1, v2, v3, v4, v5, v6⟩ := v
  exact ⟨⟨cKd_0 _, cKd_lt v1.1 v1.2 v4⟩, ⟨cKd_0 _, cKd_lt v2.1 v2.2 rfl⟩, ⟨cKd_0 _, cKd_lt v3.1 v3.2 v5⟩⟩
theorem a3_r (k : ∀ j, 0 ≤ j → j < (N : Int) → 0 ≤ kd j ∧ kd j ≤ 2) (n : N ≤ 120) (v : v3M kd N x y z) : 0 ≤ a3M kd N x y z ∧ a3M kd N x y z < 256000 ∧ (0 ≤ a3H kd N (kd y) ∧ a3H kd N (kd y) ≤ 256000) ∧ (0 ≤ cKd kd 1 x.toNat * cKd kd (kd y) N + cKd kd (kd y) y.toNat ∧ cKd kd 1 x.toNat * cKd kd (kd y) N + cKd kd (kd y) y.toNat ≤ 256000) := by
  have p := a3_p v
  have d := dig_b p.1 p.2.1 p.2.2
  have s3 := cKd_3 N k
  have sq := sq_b (cKd_0 (kd := kd) (c := 0) N) (cKd_0 (kd := kd) (c := 1) N) (cKd_0 (kd := kd) (c := 2) N) (by omega)
  have dl := Int.mul_le_mul_of_nonneg_left (show (1 : Int) ≤ cKd kd (kd y) N by omega) (show 0 ≤ cKd kd 1 N * cKd kd (kd y) N by omega)
  rw [Int.mul_one] at dl
  unfold a3M a3H
  rcases v.2.2.2.2.2 with e | e
  · rw [e] at d dl
    rw [e, if_pos rfl]
    omega
  · rw [e] at d dl
    rw [e, if_neg (by decide)]
    omega
theorem a3_i (v : v3M kd N x y z) (v' : v3M kd N x' y' z') (e : a3M kd N x y z = a3M kd N x' y' z') : x = x' ∧ y = y' ∧ z = z' := by
  have p := a3_p v
  have p' := a3_p v'
  have d := dig_b p.1 p.2.1 p.2.2
  have d' := dig_b p'.1 p'.2.1 p'.2.2
  have ke : kd y = kd y' := by
    unfold a3M a3H at e
    rcases v.2.2.2.2.2 with a | a <;> rcases v'.2.2.2.2.2 with b | b
    · omega
    · exfalso; rw [a] at d e; rw [b] at d' e; rw [if_pos rfl, if_neg (by decide)] at e; omega
    · exfalso; rw [a] at d e; rw [b] at d' e; rw [if_neg (by decide), if_pos rfl] at e; omega
    · omega
  unfold a3M at e
  rw [← ke] at e p' d'
  have g1 := dig_i (a := cKd kd 1 x.toNat * cKd kd (kd y) N + cKd kd (kd y) y.toNat) (a' := cKd kd 1 x'.toNat * cKd kd (kd y) N + cKd kd (kd y) y'.toNat) p.2.2 p'.2.2 (by omega)
  have g2 := dig_i p.2.1 p'.2.1 g1.1
  obtain ⟨v1, v2, v3, v4, v5, v6⟩ := v
  obtain ⟨u1, u2, u3, u4, u5, u6⟩ := v'
  exact ⟨cKd_i v1.1 u1.1 v4 u4 g2.1, cKd_i v2.1 u2.1 rfl ke.symm g2.2, cKd_i v3.1 u3.1 v5 (u5.trans ke.symm) g1.2⟩
end A3S
/-- m's ranks; what it knows of acts on functions -/
def rkM (h : AH) (kd : Int → Int) (N : Int) : Prop := (∀ k, 0 ≤ k → k < N → h 788 k = cKd kd (kd k) k.toNat) ∧ ∀ c, 0 ≤ c → c ≤ 2 → h 789 c = cKd kd c N.toNat
noncomputable def x3V (E : EV) (W : Int → Int → Int → VW) (pts : Int) (L : TB) (x y z : Int) : Int := ixT pts L (L.2.1 y) (mkV E W L.2.2.2.2.2 15 x y z)
def c2M (h : AH) (E : EV) (W : Int → Int → Int → VW) (pts : Int) (L : TB) : Prop := ∀ a x y, 0 ≤ a → a < 36 → 0 ≤ x → x < 120 → 0 ≤ y → y < 120 → h 786 (14400 * a + 120 * x + y) = -2 ∨ h 786 (14400 * a + 120 * x + y) = ixC E W pts L a x (if eO E a = 1 then -1 else y) (-1)
def c3M (h : AH) (E : EV) (W : Int → Int → Int → VW) (pts : Int) (L : TB) : Prop := ∀ x y z, v3M L.2.1 L.1 x y z → h 787 (a3M L.2.1 L.1.toNat x y z) = -2 ∨ h 787 (a3M L.2.1 L.1.toNat x y z) = x3V E W pts L x y z
def cM (h : AH) (E : EV) (W : Int → Int → Int → VW) (pts : Int) (L : TB) : Prop := h 454 44 = L.1 ∧ rkM h L.2.1 L.1 ∧ c2M h E W pts L ∧ c3M h E W pts L
theorem cM_f {h h' : AH} {E : EV} {W : Int → Int → Int → VW} {pts : Int} {L : TB} (c : cM h E W pts L) (f : ∀ a s, (a = 454 ∧ s = 44) ∨ (786 ≤ a ∧ a ≤ 789) → h' a s = h a s) : cM h' E W pts L := by
  obtain ⟨c1, ⟨c2, c3⟩, c4, c5⟩ := c
  refine ⟨by rw [f _ _ (by omega)]; exact c1, ⟨fun k a b => by rw [f _ _ (by omega)]; exact c2 k a b, fun k a b => by rw [f _ _ (by omega)]; exact c3 k a b⟩, fun a x y p q r s t u => ?_, fun x y z v => ?_⟩
  · rw [f _ _ (by omega)]; exact c4 a x y p q r s t u
  · rw [f _ _ (by omega)]; exact c5 x y z v
theorem vX14_kindNumber (a0 : Int) {k : Int} (b : a0 = kch k ∧ 0 ≤ k ∧ k ≤ 2) : OK (gX14_kindNumber a0) (fun v => v = k) := by
  have kc := kch_c (k := k) (by omega)
  have k0 : kch k = 110 ↔ k = 0 := by { unfold kch; rcases (show k = 0 ∨ k = 1 ∨ k = 2 by omega) with e | e | e <;> rw [e] <;> decide }
  rw [← b.1] at kc k0
  unfold gX14_kindNumber
  refine OK_if (fun c1 => ?_) (fun c1 => ?_)
  · skip
    try simp (disch := omega) only [jst_eq, jst_ne, jst_ni, jI_i, jcmp_lt, jcmp_gt, w32_id, jcpy_out, Sum.elim_inl, Sum.elim_inr, jt2, jt3, jt4, jt5, jt6, jt7, jt8] at c1
    refine OK_some ?_
    try dsimp only [Sum.elim_inl, Sum.elim_inr, jt2, jt3, jt4, jt5, jt6, jt7, jt8]
    exact (k0.1 (by assumption)).symm -- o1 e1
  · skip
    try simp (disch := omega) only [jst_eq, jst_ne, jst_ni, jI_i, jcmp_lt, jcmp_gt, w32_id, jcpy_out, Sum.elim_inl, Sum.elim_inr, jt2, jt3, jt4, jt5, jt6, jt7, jt8] at c1
    refine OK_if (fun c2 => ?_) (fun c2 => ?_)
    · skip
      try simp (disch := omega) only [jst_eq, jst_ne, jst_ni, jI_i, jcmp_lt, jcmp_gt, w32_id, jcpy_out, Sum.elim_inl, Sum.elim_inr, jt2, jt3, jt4, jt5, jt6, jt7, jt8] at c2
      refine OK_some ?_
      try dsimp only [Sum.elim_inl, Sum.elim_inr, jt2, jt3, jt4, jt5, jt6, jt7, jt8]
      exact (kc.2.1.1 (by assumption)).symm -- o2 e2
    · skip
      try simp (disch := omega) only [jst_eq, jst_ne, jst_ni, jI_i, jcmp_lt, jcmp_gt, w32_id, jcpy_out, Sum.elim_inl, Sum.elim_inr, jt2, jt3, jt4, jt5, jt6, jt7, jt8] at c2
      refine OK_some ?_
      try dsimp only [Sum.elim_inl, Sum.elim_inr, jt2, jt3, jt4, jt5, jt6, jt7, jt8]
      (have n0 : ¬ k = 0 := fun y => c1 (k0.2 y); have n1 : ¬ k = 1 := fun y => c2 (kc.2.1.2 y); omega) -- o3 e3
theorem vX14_startAnew_l2 (a10 : Int) {h0 : AH} (z : a10 = 0) (ln : h0 786 (-2) = 101 ∧ h0 786 (-1) = 518400) : OK (gX14_startAnew_l2 a10 h0) (fun h' => (∀ s, 0 ≤ s → s < 518400 → h' 786 s = -2) ∧ (∀ a s, ¬ (a = 786 ∧ 0 ≤ s) → h' a s = h0 a s)) := by
  unfold gX14_startAnew_l2
  refine OK_jit (I := (fun (s : Int × AH) => jt2 s fun a1 h => (0 ≤ a1 ∧ a1 ≤ 518400) ∧ (∀ s, 0 ≤ s → s < a1 → h 786 s = -2) ∧ (∀ a s, ¬ (a = 786 ∧ 0 ≤ s) → h a s = h0 a s))) (m := (fun (s : Int × AH) => jt2 s fun a1 h => (518400 - a1).toNat)) ?_ ?_
  · intro s hs
    obtain ⟨a1, h⟩ := s
    dsimp only [Sum.elim_inl, Sum.elim_inr, jt2, jt3, jt4, jt5, jt6, jt7, jt8] at hs
    obtain ⟨q0, q1, fr⟩ := hs
    unfold gX14_startAnew_b2
    refine OK_jt2 ?_
    refine OK_if (fun c1 => ?_) (fun c1 => ?_)
    · skip
      try simp (disch := omega) only [jst_eq, jst_ne, jst_ni, jI_i, jcmp_lt, jcmp_gt, w32_id, jcpy_out, Sum.elim_inl, Sum.elim_inr, jt2, jt3, jt4, jt5, jt6, jt7, jt8] at c1
      refine OK_ir ?_
      try dsimp only [Sum.elim_inl, Sum.elim_inr, jt2, jt3, jt4, jt5, jt6, jt7, jt8]
      refine ⟨?_, ?_⟩
      · (intro s s0 s1; exact q1 s s0 (by omega)) -- o1 e1.1
      · (first | assumption | omega | ((try dsimp only [jt2, jt3, jt4]); first | omega | (simp (disch := omega) only [jst_eq, jst_ne, jst_ni, jst_o, jI_i, jcpy_out, w32_id, jdiv_nn, jshr_k, jand_255] <;> first | done | omega | assumption)) | (intros; simp (disch := omega) only [jst_eq, jst_ne, jst_ni, jst_o, jI_i, jcpy_out, w32_id, jdiv_nn, *] <;> first | done | omega) | (intros; simp (disch := omega) only [jst_eq, jst_ne, jst_ni, jst_o, jI_i, jcpy_out, w32_id, jdiv_nn] at * <;> first | done | omega | assumption) | (intros; first | rfl | (exfalso; omega) | ((repeat' apply And.intro) <;> first | assumption | rfl | omega | trivial))) -- o2 e1.2
    · skip
      try simp (disch := omega) only [jst_eq, jst_ne, jst_ni, jI_i, jcmp_lt, jcmp_gt, w32_id, jcpy_out, Sum.elim_inl, Sum.elim_inr, jt2, jt3, jt4, jt5, jt6, jt7, jt8] at c1
      refine OK_jg (by (first | assumption | omega | ((try dsimp only [jt2, jt3, jt4]); first | omega | (simp (disch := omega) only [jst_eq, jst_ne, jst_ni, jst_o, jI_i, jcpy_out, w32_id, jdiv_nn, jshr_k, jand_255] <;> first | done | omega | assumption)) | (intros; simp (disch := omega) only [jst_eq, jst_ne, jst_ni, jst_o, jI_i, jcpy_out, w32_id, jdiv_nn, *] <;> first | done | omega) | (intros; simp (disch := omega) only [jst_eq, jst_ne, jst_ni, jst_o, jI_i, jcpy_out, w32_id, jdiv_nn] at * <;> first | done | omega | assumption) | (intros; first | rfl | (exfalso; omega) | ((repeat' apply And.intro) <;> first | assumption | rfl | omega | trivial)))) ?_ -- o3
      refine OK_jl ?_
      refine OK_jlx (fun x11 ex11 => ?_)
      try simp (disch := omega) only [jst_eq, jst_ne, jst_ni, jI_i, jcmp_lt, jcmp_gt, w32_id, jcpy_out, Sum.elim_inl, Sum.elim_inr, jt2, jt3, jt4, jt5, jt6, jt7, jt8] at ex11
      refine OK_il ?_ ?_
      · try dsimp only [Sum.elim_inl, Sum.elim_inr, jt2, jt3, jt4, jt5, jt6, jt7, jt8]
        refine ⟨?_, ?_, ?_⟩
        · (first | assumption | omega | ((try dsimp only [jt2, jt3, jt4]); first | omega | (simp (disch := omega) only [jst_eq, jst_ne, jst_ni, jst_o, jI_i, jcpy_out, w32_id, jdiv_nn, jshr_k, jand_255] <;> first | done | omega | assumption)) | (intros; simp (disch := omega) only [jst_eq, jst_ne, jst_ni, jst_o, jI_i, jcpy_out, w32_id, jdiv_nn, *] <;> first | done | omega) | (intros; simp (disch := omega) only [jst_eq, jst_ne, jst_ni, jst_o, jI_i, jcpy_out, w32_id, jdiv_nn] at * <;> first | done | omega | assumption) | (intros; first | rfl | (exfalso; omega) | ((repeat' apply And.intro) <;> first | assumption | rfl | omega | trivial))) -- o4 e2i.1
        · (intro s s0 s1; rw [jst_at]; by_cases y : s = a1; { rw [if_pos y] }; { rw [if_neg y]; exact q1 s s0 (by omega) }) -- o5 e2i.2
        · (intro a s y; rw [jst_o (by omega)]; exact fr a s y) -- o6 e2i.3
      · (first | assumption | omega | ((try dsimp only [jt2, jt3, jt4]); first | omega | (simp (disch := omega) only [jst_eq, jst_ne, jst_ni, jst_o, jI_i, jcpy_out, w32_id, jdiv_nn, jshr_k, jand_255] <;> first | done | omega | assumption)) | (intros; simp (disch := omega) only [jst_eq, jst_ne, jst_ni, jst_o, jI_i, jcpy_out, w32_id, jdiv_nn, *] <;> first | done | omega) | (intros; simp (disch := omega) only [jst_eq, jst_ne, jst_ni, jst_o, jI_i, jcpy_out, w32_id, jdiv_nn] at * <;> first | done | omega | assumption) | (intros; first | rfl | (exfalso; omega) | ((repeat' apply And.intro) <;> first | assumption | rfl | omega | trivial))) -- o7 e2m
  · try dsimp only [Sum.elim_inl, Sum.elim_inr, jt2, jt3, jt4, jt5, jt6, jt7, jt8]
    refine ⟨?_, ?_, ?_⟩
    · (first | assumption | omega | ((try dsimp only [jt2, jt3, jt4]); first | omega | (simp (disch := omega) only [jst_eq, jst_ne, jst_ni, jst_o, jI_i, jcpy_out, w32_id, jdiv_nn, jshr_k, jand_255] <;> first | done | omega | assumption)) | (intros; simp (disch := omega) only [jst_eq, jst_ne, jst_ni, jst_o, jI_i, jcpy_out, w32_id, jdiv_nn, *] <;> first | done | omega) | (intros; simp (disch := omega) only [jst_eq, jst_ne, jst_ni, jst_o, jI_i, jcpy_out, w32_id, jdiv_nn] at * <;> first | done | omega | assumption) | (intros; first | rfl | (exfalso; omega) | ((repeat' apply And.intro) <;> first | assumption | rfl | omega | trivial))) -- o8 init.1
    · (first | assumption | omega | ((try dsimp only [jt2, jt3, jt4]); first | omega | (simp (disch := omega) only [jst_eq, jst_ne, jst_ni, jst_o, jI_i, jcpy_out, w32_id, jdiv_nn, jshr_k, jand_255] <;> first | done | omega | assumption)) | (intros; simp (disch := omega) only [jst_eq, jst_ne, jst_ni, jst_o, jI_i, jcpy_out, w32_id, jdiv_nn, *] <;> first | done | omega) | (intros; simp (disch := omega) only [jst_eq, jst_ne, jst_ni, jst_o, jI_i, jcpy_out, w32_id, jdiv_nn] at * <;> first | done | omega | assumption) | (intros; first | rfl | (exfalso; omega) | ((repeat' apply And.intro) <;> first | assumption | rfl | omega | trivial))) -- o9 init.2
    · (first | assumption | omega | ((try dsimp only [jt2, jt3, jt4]); first | omega | (simp (disch := omega) only [jst_eq, jst_ne, jst_ni, jst_o, jI_i, jcpy_out, w32_id, jdiv_nn, jshr_k, jand_255] <;> first | done | omega | assumption)) | (intros; simp (disch := omega) only [jst_eq, jst_ne, jst_ni, jst_o, jI_i, jcpy_out, w32_id, jdiv_nn, *] <;> first | done | omega) | (intros; simp (disch := omega) only [jst_eq, jst_ne, jst_ni, jst_o, jI_i, jcpy_out, w32_id, jdiv_nn] at * <;> first | done | omega | assumption) | (intros; first | rfl | (exfalso; omega) | ((repeat' apply And.intro) <;> first | assumption | rfl | omega | trivial))) -- o10 init.3
theorem vX14_startAnew_l24 (a10 : Int) {h0 : AH} (z : a10 = 0) (ln : h0 787 (-2) = 101 ∧ h0 787 (-1) = 256000) : OK (gX14_startAnew_l24 a10 h0) (fun h' => (∀ s, 0 ≤ s → s < 256000 → h' 787 s = -2) ∧ (∀ a s, ¬ (a = 787 ∧ 0 ≤ s) → h' a s = h0 a s)) := by
  unfold gX14_startAnew_l24
  refine OK_jit (I := (fun (s : Int × AH) => jt2 s fun a1 h => (0 ≤ a1 ∧ a1 ≤ 256000) ∧ (∀ s, 0 ≤ s → s < a1 → h 787 s = -2) ∧ (∀ a s, ¬ (a = 787 ∧ 0 ≤ s) → h a s = h0 a s))) (m := (fun (s : Int × AH) => jt2 s fun a1 h => (256000 - a1).toNat)) ?_ ?_
  · intro s hs
    obtain ⟨a1, h⟩ := s
    dsimp only [Sum.elim_inl, Sum.elim_inr, jt2, jt3, jt4, jt5, jt6, jt7, jt8] at hs
    obtain ⟨q0, q1, fr⟩ := hs
    unfold gX14_startAnew_b24
    refine OK_jt2 ?_
    refine OK_if (fun c1 => ?_) (fun c1 => ?_)
    · skip
      try simp (disch := omega) only [jst_eq, jst_ne, jst_ni, jI_i, jcmp_lt, jcmp_gt, w32_id, jcpy_out, Sum.elim_inl, Sum.elim_inr, jt2, jt3, jt4, jt5, jt6, jt7, jt8] at c1
      refine OK_ir ?_
      try dsimp only [Sum.elim_inl, Sum.elim_inr, jt2, jt3, jt4, jt5, jt6, jt7, jt8]
      refine ⟨?_, ?_⟩
      · (intro s s0 s1; exact q1 s s0 (by omega)) -- o1 e1.1
      · (first | assumption | omega | ((try dsimp only [jt2, jt3, jt4]); first | omega | (simp (disch := omega) only [jst_eq, jst_ne, jst_ni, jst_o, jI_i, jcpy_out, w32_id, jdiv_nn, jshr_k, jand_255] <;> first | done | omega | assumption)) | (intros; simp (disch := omega) only [jst_eq, jst_ne, jst_ni, jst_o, jI_i, jcpy_out, w32_id, jdiv_nn, *] <;> first | done | omega) | (intros; simp (disch := omega) only [jst_eq, jst_ne, jst_ni, jst_o, jI_i, jcpy_out, w32_id, jdiv_nn] at * <;> first | done | omega | assumption) | (intros; first | rfl | (exfalso; omega) | ((repeat' apply And.intro) <;> first | assumption | rfl | omega | trivial))) -- o2 e1.2
    · skip
      try simp (disch := omega) only [jst_eq, jst_ne, jst_ni, jI_i, jcmp_lt, jcmp_gt, w32_id, jcpy_out, Sum.elim_inl, Sum.elim_inr, jt2, jt3, jt4, jt5, jt6, jt7, jt8] at c1
      refine OK_jg (by (first | assumption | omega | ((try dsimp only [jt2, jt3, jt4]); first | omega | (simp (disch := omega) only [jst_eq, jst_ne, jst_ni, jst_o, jI_i, jcpy_out, w32_id, jdiv_nn, jshr_k, jand_255] <;> first | done | omega | assumption)) | (intros; simp (disch := omega) only [jst_eq, jst_ne, jst_ni, jst_o, jI_i, jcpy_out, w32_id, jdiv_nn, *] <;> first | done | omega) | (intros; simp (disch := omega) only [jst_eq, jst_ne, jst_ni, jst_o, jI_i, jcpy_out, w32_id, jdiv_nn] at * <;> first | done | omega | assumption) | (intros; first | rfl | (exfalso; omega) | ((repeat' apply And.intro) <;> first | assumption | rfl | omega | trivial)))) ?_ -- o3
      refine OK_jl ?_
      refine OK_jlx (fun x14 ex14 => ?_)
      try simp (disch := omega) only [jst_eq, jst_ne, jst_ni, jI_i, jcmp_lt, jcmp_gt, w32_id, jcpy_out, Sum.elim_inl, Sum.elim_inr, jt2, jt3, jt4, jt5, jt6, jt7, jt8] at ex14
      refine OK_il ?_ ?_
      · try dsimp only [Sum.elim_inl, Sum.elim_inr, jt2, jt3, jt4, jt5, jt6, jt7, jt8]
        refine ⟨?_, ?_, ?_⟩
        · (first | assumption | omega | ((try dsimp only [jt2, jt3, jt4]); first | omega | (simp (disch := omega) only [jst_eq, jst_ne, jst_ni, jst_o, jI_i, jcpy_out, w32_id, jdiv_nn, jshr_k, jand_255] <;> first | done | omega | assumption)) | (intros; simp (disch := omega) only [jst_eq, jst_ne, jst_ni, jst_o, jI_i, jcpy_out, w32_id, jdiv_nn, *] <;> first | done | omega) | (intros; simp (disch := omega) only [jst_eq, jst_ne, jst_ni, jst_o, jI_i, jcpy_out, w32_id, jdiv_nn] at * <;> first | done | omega | assumption) | (intros; first | rfl | (exfalso; omega) | ((repeat' apply And.intro) <;> first | assumption | rfl | omega | trivial))) -- o4 e2i.1
        · (intro s s0 s1; rw [jst_at]; by_cases y : s = a1; { rw [if_pos y] }; { rw [if_neg y]; exact q1 s s0 (by omega) }) -- o5 e2i.2
        · (intro a s y; rw [jst_o (by omega)]; exact fr a s y) -- o6 e2i.3
      · (first | assumption | omega | ((try dsimp only [jt2, jt3, jt4]); first | omega | (simp (disch := omega) only [jst_eq, jst_ne, jst_ni, jst_o, jI_i, jcpy_out, w32_id, jdiv_nn, jshr_k, jand_255] <;> first | done | omega | assumption)) | (intros; simp (disch := omega) only [jst_eq, jst_ne, jst_ni, jst_o, jI_i, jcpy_out, w32_id, jdiv_nn, *] <;> first | done | omega) | (intros; simp (disch := omega) only [jst_eq, jst_ne, jst_ni, jst_o, jI_i, jcpy_out, w32_id, jdiv_nn] at * <;> first | done | omega | assumption) | (intros; first | rfl | (exfalso; omega) | ((repeat' apply And.intro) <;> first | assumption | rfl | omega | trivial))) -- o7 e2m
  · try dsimp only [Sum.elim_inl, Sum.elim_inr, jt2, jt3, jt4, jt5, jt6, jt7, jt8]
    refine ⟨?_, ?_, ?_⟩
    · (first | assumption | omega | ((try dsimp only [jt2, jt3, jt4]); first | omega | (simp (disch := omega) only [jst_eq, jst_ne, jst_ni, jst_o, jI_i, jcpy_out, w32_id, jdiv_nn, jshr_k, jand_255] <;> first | done | omega | assumption)) | (intros; simp (disch := omega) only [jst_eq, jst_ne, jst_ni, jst_o, jI_i, jcpy_out, w32_id, jdiv_nn, *] <;> first | done | omega) | (intros; simp (disch := omega) only [jst_eq, jst_ne, jst_ni, jst_o, jI_i, jcpy_out, w32_id, jdiv_nn] at * <;> first | done | omega | assumption) | (intros; first | rfl | (exfalso; omega) | ((repeat' apply And.intro) <;> first | assumption | rfl | omega | trivial))) -- o8 init.1
    · (first | assumption | omega | ((try dsimp only [jt2, jt3, jt4]); first | omega | (simp (disch := omega) only [jst_eq, jst_ne, jst_ni, jst_o, jI_i, jcpy_out, w32_id, jdiv_nn, jshr_k, jand_255] <;> first | done | omega | assumption)) | (intros; simp (disch := omega) only [jst_eq, jst_ne, jst_ni, jst_o, jI_i, jcpy_out, w32_id, jdiv_nn, *] <;> first | done | omega) | (intros; simp (disch := omega) only [jst_eq, jst_ne, jst_ni, jst_o, jI_i, jcpy_out, w32_id, jdiv_nn] at * <;> first | done | omega | assumption) | (intros; first | rfl | (exfalso; omega) | ((repeat' apply And.intro) <;> first | assumption | rfl | omega | trivial))) -- o9 init.2
    · (first | assumption | omega | ((try dsimp only [jt2, jt3, jt4]); first | omega | (simp (disch := omega) only [jst_eq, jst_ne, jst_ni, jst_o, jI_i, jcpy_out, w32_id, jdiv_nn, jshr_k, jand_255] <;> first | done | omega | assumption)) | (intros; simp (disch := omega) only [jst_eq, jst_ne, jst_ni, jst_o, jI_i, jcpy_out, w32_id, jdiv_nn, *] <;> first | done | omega) | (intros; simp (disch := omega) only [jst_eq, jst_ne, jst_ni, jst_o, jI_i, jcpy_out, w32_id, jdiv_nn] at * <;> first | done | omega | assumption) | (intros; first | rfl | (exfalso; omega) | ((repeat' apply And.intro) <;> first | assumption | rfl | omega | trivial))) -- o10 init.3
theorem vX14_startAnew_l46 (a10 : Int) {h0 : AH} (z : a10 = 0) : OK (gX14_startAnew_l46 a10 h0) (fun h' => (∀ s, 0 ≤ s → s < 3 → h' 789 s = 0) ∧ (∀ a s, ¬ (a = 789 ∧ 0 ≤ s) → h' a s = h0 a s)) := by
  unfold gX14_startAnew_l46
  refine OK_jit (I := (fun (s : Int × AH) => jt2 s fun a1 h => (0 ≤ a1 ∧ a1 ≤ 3) ∧ (∀ s, 0 ≤ s → s < a1 → h 789 s = 0) ∧ (∀ a s, ¬ (a = 789 ∧ 0 ≤ s) → h a s = h0 a s))) (m := (fun (s : Int × AH) => jt2 s fun a1 h => (3 - a1).toNat)) ?_ ?_
  · intro s hs
    obtain ⟨a1, h⟩ := s
    dsimp only [Sum.elim_inl, Sum.elim_inr, jt2, jt3, jt4, jt5, jt6, jt7, jt8] at hs
    obtain ⟨q0, q1, fr⟩ := hs
    unfold gX14_startAnew_b46
    refine OK_jt2 ?_
    refine OK_if (fun c1 => ?_) (fun c1 => ?_)
    · skip
      try simp (disch := omega) only [jst_eq, jst_ne, jst_ni, jI_i, jcmp_lt, jcmp_gt, w32_id, jcpy_out, Sum.elim_inl, Sum.elim_inr, jt2, jt3, jt4, jt5, jt6, jt7, jt8] at c1
      refine OK_ir ?_
      try dsimp only [Sum.elim_inl, Sum.elim_inr, jt2, jt3, jt4, jt5, jt6, jt7, jt8]
      refine ⟨?_, ?_⟩
      · (intro s s0 s1; exact q1 s s0 (by omega)) -- o1 e1.1
      · (first | assumption | omega | ((try dsimp only [jt2, jt3, jt4]); first | omega | (simp (disch := omega) only [jst_eq, jst_ne, jst_ni, jst_o, jI_i, jcpy_out, w32_id, jdiv_nn, jshr_k, jand_255] <;> first | done | omega | assumption)) | (intros; simp (disch := omega) only [jst_eq, jst_ne, jst_ni, jst_o, jI_i, jcpy_out, w32_id, jdiv_nn, *] <;> first | done | omega) | (intros; simp (disch := omega) only [jst_eq, jst_ne, jst_ni, jst_o, jI_i, jcpy_out, w32_id, jdiv_nn] at * <;> first | done | omega | assumption) | (intros; first | rfl | (exfalso; omega) | ((repeat' apply And.intro) <;> first | assumption | rfl | omega | trivial))) -- o2 e1.2
    · skip
      try simp (disch := omega) only [jst_eq, jst_ne, jst_ni, jI_i, jcmp_lt, jcmp_gt, w32_id, jcpy_out, Sum.elim_inl, Sum.elim_inr, jt2, jt3, jt4, jt5, jt6, jt7, jt8] at c1
      refine OK_jg (by (first | assumption | omega | ((try dsimp only [jt2, jt3, jt4]); first | omega | (simp (disch := omega) only [jst_eq, jst_ne, jst_ni, jst_o, jI_i, jcpy_out, w32_id, jdiv_nn, jshr_k, jand_255] <;> first | done | omega | assumption)) | (intros; simp (disch := omega) only [jst_eq, jst_ne, jst_ni, jst_o, jI_i, jcpy_out, w32_id, jdiv_nn, *] <;> first | done | omega) | (intros; simp (disch := omega) only [jst_eq, jst_ne, jst_ni, jst_o, jI_i, jcpy_out, w32_id, jdiv_nn] at * <;> first | done | omega | assumption) | (intros; first | rfl | (exfalso; omega) | ((repeat' apply And.intro) <;> first | assumption | rfl | omega | trivial)))) ?_ -- o3
      refine OK_jl ?_
      refine OK_jlx (fun x17 ex17 => ?_)
      try simp (disch := omega) only [jst_eq, jst_ne, jst_ni, jI_i, jcmp_lt, jcmp_gt, w32_id, jcpy_out, Sum.elim_inl, Sum.elim_inr, jt2, jt3, jt4, jt5, jt6, jt7, jt8] at ex17
      refine OK_il ?_ ?_
      · try dsimp only [Sum.elim_inl, Sum.elim_inr, jt2, jt3, jt4, jt5, jt6, jt7, jt8]
        refine ⟨?_, ?_, ?_⟩
        · (first | assumption | omega | ((try dsimp only [jt2, jt3, jt4]); first | omega | (simp (disch := omega) only [jst_eq, jst_ne, jst_ni, jst_o, jI_i, jcpy_out, w32_id, jdiv_nn, jshr_k, jand_255] <;> first | done | omega | assumption)) | (intros; simp (disch := omega) only [jst_eq, jst_ne, jst_ni, jst_o, jI_i, jcpy_out, w32_id, jdiv_nn, *] <;> first | done | omega) | (intros; simp (disch := omega) only [jst_eq, jst_ne, jst_ni, jst_o, jI_i, jcpy_out, w32_id, jdiv_nn] at * <;> first | done | omega | assumption) | (intros; first | rfl | (exfalso; omega) | ((repeat' apply And.intro) <;> first | assumption | rfl | omega | trivial))) -- o4 e2i.1
        · (intro s s0 s1; rw [jst_at]; by_cases y : s = a1; { rw [if_pos y] }; { rw [if_neg y]; exact q1 s s0 (by omega) }) -- o5 e2i.2
        · (intro a s y; rw [jst_o (by omega)]; exact fr a s y) -- o6 e2i.3
      · (first | assumption | omega | ((try dsimp only [jt2, jt3, jt4]); first | omega | (simp (disch := omega) only [jst_eq, jst_ne, jst_ni, jst_o, jI_i, jcpy_out, w32_id, jdiv_nn, jshr_k, jand_255] <;> first | done | omega | assumption)) | (intros; simp (disch := omega) only [jst_eq, jst_ne, jst_ni, jst_o, jI_i, jcpy_out, w32_id, jdiv_nn, *] <;> first | done | omega) | (intros; simp (disch := omega) only [jst_eq, jst_ne, jst_ni, jst_o, jI_i, jcpy_out, w32_id, jdiv_nn] at * <;> first | done | omega | assumption) | (intros; first | rfl | (exfalso; omega) | ((repeat' apply And.intro) <;> first | assumption | rfl | omega | trivial))) -- o7 e2m
  · try dsimp only [Sum.elim_inl, Sum.elim_inr, jt2, jt3, jt4, jt5, jt6, jt7, jt8]
    refine ⟨?_, ?_, ?_⟩
    · (first | assumption | omega | ((try dsimp only [jt2, jt3, jt4]); first | omega | (simp (disch := omega) only [jst_eq, jst_ne, jst_ni, jst_o, jI_i, jcpy_out, w32_id, jdiv_nn, jshr_k, jand_255] <;> first | done | omega | assumption)) | (intros; simp (disch := omega) only [jst_eq, jst_ne, jst_ni, jst_o, jI_i, jcpy_out, w32_id, jdiv_nn, *] <;> first | done | omega) | (intros; simp (disch := omega) only [jst_eq, jst_ne, jst_ni, jst_o, jI_i, jcpy_out, w32_id, jdiv_nn] at * <;> first | done | omega | assumption) | (intros; first | rfl | (exfalso; omega) | ((repeat' apply And.intro) <;> first | assumption | rfl | omega | trivial))) -- o8 init.1
    · (first | assumption | omega | ((try dsimp only [jt2, jt3, jt4]); first | omega | (simp (disch := omega) only [jst_eq, jst_ne, jst_ni, jst_o, jI_i, jcpy_out, w32_id, jdiv_nn, jshr_k, jand_255] <;> first | done | omega | assumption)) | (intros; simp (disch := omega) only [jst_eq, jst_ne, jst_ni, jst_o, jI_i, jcpy_out, w32_id, jdiv_nn, *] <;> first | done | omega) | (intros; simp (disch := omega) only [jst_eq, jst_ne, jst_ni, jst_o, jI_i, jcpy_out, w32_id, jdiv_nn] at * <;> first | done | omega | assumption) | (intros; first | rfl | (exfalso; omega) | ((repeat' apply And.intro) <;> first | assumption | rfl | omega | trivial))) -- o9 init.2
    · (first | assumption | omega | ((try dsimp only [jt2, jt3, jt4]); first | omega | (simp (disch := omega) only [jst_eq, jst_ne, jst_ni, jst_o, jI_i, jcpy_out, w32_id, jdiv_nn, jshr_k, jand_255] <;> first | done | omega | assumption)) | (intros; simp (disch := omega) only [jst_eq, jst_ne, jst_ni, jst_o, jI_i, jcpy_out, w32_id, jdiv_nn, *] <;> first | done | omega) | (intros; simp (disch := omega) only [jst_eq, jst_ne, jst_ni, jst_o, jI_i, jcpy_out, w32_id, jdiv_nn] at * <;> first | done | omega | assumption) | (intros; first | rfl | (exfalso; omega) | ((repeat' apply And.intro) <;> first | assumption | rfl | omega | trivial))) -- o10 init.3
theorem vX14_startAnew_l66 (a10 : Int) {h0 : AH} {N : Int} {kd : Int → Int} (x : isX16 (h0 454 38) ∧ h0 454 44 = N ∧ 0 ≤ N ∧ N ≤ 120) (k : ∀ a, 0 ≤ a → a < N → h0 (h0 454 38 + 12) a = kch (kd a) ∧ 0 ≤ kd a ∧ kd a ≤ 2) (c0 : ∀ s, 0 ≤ s → s < 3 → h0 789 s = 0) (z : a10 = 0) : OK (gX14_startAnew_l66 a10 h0) (fun h' => (rkM h' kd N) ∧ (∀ a s, ¬ ((a = 788 ∨ a = 789) ∧ 0 ≤ s) → h' a s = h0 a s)) := by
  unfold gX14_startAnew_l66
  refine OK_jit (I := (fun (s : Int × AH) => jt2 s fun a1 h => (0 ≤ a1 ∧ a1 ≤ N) ∧ (∀ j, 0 ≤ j → j < a1 → h 788 j = cKd kd (kd j) j.toNat) ∧ (∀ c, 0 ≤ c → c ≤ 2 → h 789 c = cKd kd c a1.toNat) ∧ (∀ a s, ¬ ((a = 788 ∨ a = 789) ∧ 0 ≤ s) → h a s = h0 a s))) (m := (fun (s : Int × AH) => jt2 s fun a1 h => (N - a1).toNat)) ?_ ?_
  · intro s hs
    obtain ⟨a1, h⟩ := s
    dsimp only [Sum.elim_inl, Sum.elim_inr, jt2, jt3, jt4, jt5, jt6, jt7, jt8] at hs
    obtain ⟨q0, q1, q2, fr⟩ := hs
    unfold gX14_startAnew_b66
    refine OK_jt2 ?_
    have xx : h0 454 38 = 476 ∨ h0 454 38 = 615 := x.1
    have e38 : h 454 38 = h0 454 38 := fr _ _ (by omega)
    have e44 : h 454 44 = N := by { rw [fr _ _ (by omega)]; exact x.2.1 }
    have x16 : isX16 (h 454 38) := by { rw [e38]; exact x.1 }
    refine OK_if (fun c1 => ?_) (fun c1 => ?_)
    · skip
      try simp (disch := omega) only [jst_eq, jst_ne, jst_ni, jI_i, jcmp_lt, jcmp_gt, w32_id, jcpy_out, Sum.elim_inl, Sum.elim_inr, jt2, jt3, jt4, jt5, jt6, jt7, jt8] at c1
      refine OK_ir ?_
      try dsimp only [Sum.elim_inl, Sum.elim_inr, jt2, jt3, jt4, jt5, jt6, jt7, jt8]
      refine ⟨?_, ?_⟩
      · (refine ⟨fun j a b => ?_, fun c a b => ?_⟩; { exact q1 j a (by omega) }; { rw [show N.toNat = a1.toNat by omega]; exact q2 c a b }) -- o1 e1.1
      · exact fr -- o2 e1.2
    · skip
      try simp (disch := omega) only [jst_eq, jst_ne, jst_ni, jI_i, jcmp_lt, jcmp_gt, w32_id, jcpy_out, Sum.elim_inl, Sum.elim_inr, jt2, jt3, jt4, jt5, jt6, jt7, jt8] at c1
      have K := k a1 q0.1 (by omega)
      have kc : h (h 454 38 + 12) a1 = kch (kd a1) := by { rw [e38, fr _ _ (by omega)]; exact K.1 }
      refine OK_jg (by (first | assumption | omega | ((try dsimp only [jt2, jt3, jt4]); first | omega | (simp (disch := omega) only [jst_eq, jst_ne, jst_ni, jst_o, jI_i, jcpy_out, w32_id, jdiv_nn, jshr_k, jand_255] <;> first | done | omega | assumption)) | (intros; simp (disch := omega) only [jst_eq, jst_ne, jst_ni, jst_o, jI_i, jcpy_out, w32_id, jdiv_nn, *] <;> first | done | omega) | (intros; simp (disch := omega) only [jst_eq, jst_ne, jst_ni, jst_o, jI_i, jcpy_out, w32_id, jdiv_nn] at * <;> first | done | omega | assumption) | (intros; first | rfl | (exfalso; omega) | ((repeat' apply And.intro) <;> first | assumption | rfl | omega | trivial)))) ?_ -- o3
      refine OK_jg (by (first | assumption | omega | ((try dsimp only [jt2, jt3, jt4]); first | omega | (simp (disch := omega) only [jst_eq, jst_ne, jst_ni, jst_o, jI_i, jcpy_out, w32_id, jdiv_nn, jshr_k, jand_255] <;> first | done | omega | assumption)) | (intros; simp (disch := omega) only [jst_eq, jst_ne, jst_ni, jst_o, jI_i, jcpy_out, w32_id, jdiv_nn, *] <;> first | done | omega) | (intros; simp (disch := omega) only [jst_eq, jst_ne, jst_ni, jst_o, jI_i, jcpy_out, w32_id, jdiv_nn] at * <;> first | done | omega | assumption) | (intros; first | rfl | (exfalso; omega) | ((repeat' apply And.intro) <;> first | assumption | rfl | omega | trivial)))) ?_ -- o4
      refine OK_jb (vX14_kindNumber (k := kd a1) _ (by exact ⟨kc, K.2⟩)) (fun v20 r1 => ?_)
      try dsimp only [Sum.elim_inl, Sum.elim_inr, jt2, jt3, jt4, jt5, jt6, jt7, jt8] at r1
      have kn1 := r1
      clear r1
      try simp (disch := omega) only [jst_eq, jst_ne, jst_ni, jI_i, jcmp_lt, jcmp_gt, w32_id, jcpy_out, Sum.elim_inl, Sum.elim_inr, jt2, jt3, jt4, jt5, jt6, jt7, jt8] at kn1
      have C2 := q2 (kd a1) K.2.1 K.2.2
      have Cr := cKd_0 (kd := kd) (c := kd a1) a1.toNat
      have C3 := cKd_3 a1.toNat (fun j a b => (k j a (by omega)).2)
      have Ca := cKd_0 (kd := kd) (c := 0) a1.toNat
      have Cb := cKd_0 (kd := kd) (c := 1) a1.toNat
      have Cc := cKd_0 (kd := kd) (c := 2) a1.toNat
      have CB : cKd kd (kd a1) a1.toNat ≤ 120 := by { rcases (show kd a1 = 0 ∨ kd a1 = 1 ∨ kd a1 = 2 by omega) with e | e | e <;> rw [e] <;> omega }
      subst kn1
      have w22 : w32 (jst h 788 a1 (h 789 (kd a1)) 789 (kd a1) + 1) = cKd kd (kd a1) a1.toNat + 1 := by { rw [jst_o (by omega), C2]; exact w32_id (by omega) (by omega) }
      refine OK_jg (by (first | assumption | omega | ((try dsimp only [jt2, jt3, jt4]); first | omega | (simp (disch := omega) only [jst_eq, jst_ne, jst_ni, jst_o, jI_i, jcpy_out, w32_id, jdiv_nn, jshr_k, jand_255] <;> first | done | omega | assumption)) | (intros; simp (disch := omega) only [jst_eq, jst_ne, jst_ni, jst_o, jI_i, jcpy_out, w32_id, jdiv_nn, *] <;> first | done | omega) | (intros; simp (disch := omega) only [jst_eq, jst_ne, jst_ni, jst_o, jI_i, jcpy_out, w32_id, jdiv_nn] at * <;> first | done | omega | assumption) | (intros; first | rfl | (exfalso; omega) | ((repeat' apply And.intro) <;> first | assumption | rfl | omega | trivial)))) ?_ -- o6
      refine OK_jl ?_
      refine OK_jl ?_
      rw [w22]
      refine OK_jlx (fun x23 ex23 => ?_)
      try simp (disch := omega) only [jst_eq, jst_ne, jst_ni, jI_i, jcmp_lt, jcmp_gt, w32_id, jcpy_out, Sum.elim_inl, Sum.elim_inr, jt2, jt3, jt4, jt5, jt6, jt7, jt8] at ex23
      have x23e : x23 = a1 + 1 := by omega
      refine OK_il ?_ ?_
      · try dsimp only [Sum.elim_inl, Sum.elim_inr, jt2, jt3, jt4, jt5, jt6, jt7, jt8]
        refine ⟨?_, ?_, ?_, ?_⟩
        · (first | assumption | omega | ((try dsimp only [jt2, jt3, jt4]); first | omega | (simp (disch := omega) only [jst_eq, jst_ne, jst_ni, jst_o, jI_i, jcpy_out, w32_id, jdiv_nn, jshr_k, jand_255] <;> first | done | omega | assumption)) | (intros; simp (disch := omega) only [jst_eq, jst_ne, jst_ni, jst_o, jI_i, jcpy_out, w32_id, jdiv_nn, *] <;> first | done | omega) | (intros; simp (disch := omega) only [jst_eq, jst_ne, jst_ni, jst_o, jI_i, jcpy_out, w32_id, jdiv_nn] at * <;> first | done | omega | assumption) | (intros; first | rfl | (exfalso; omega) | ((repeat' apply And.intro) <;> first | assumption | rfl | omega | trivial))) -- o7 e2i.1
        · (intro j j0 j1; rw [jst_o (by omega), jst_at]; by_cases y : j = a1; { rw [if_pos y, y]; exact C2 }; { rw [if_neg y]; exact q1 j j0 (by omega) }) -- o8 e2i.2
        · (intro c c0 c1; rw [jst_at, x23e, show (a1 + 1).toNat = a1.toNat + 1 by omega]; show _ = cKd kd c a1.toNat + (if kd ((a1.toNat : Nat) : Int) = c then 1 else 0); rw [show ((a1.toNat : Nat) : Int) = a1 by omega]; by_cases y : c = kd a1; { rw [if_pos y, if_pos y.symm, y] }; { rw [if_neg y, if_neg (fun u => y u.symm), jst_o (by omega), q2 c c0 c1]; omega }) -- o9 e2i.3
        · (intro a s y; rw [jst_o (by omega), jst_o (by omega)]; exact fr a s y) -- o10 e2i.4
      · (first | assumption | omega | ((try dsimp only [jt2, jt3, jt4]); first | omega | (simp (disch := omega) only [jst_eq, jst_ne, jst_ni, jst_o, jI_i, jcpy_out, w32_id, jdiv_nn, jshr_k, jand_255] <;> first | done | omega | assumption)) | (intros; simp (disch := omega) only [jst_eq, jst_ne, jst_ni, jst_o, jI_i, jcpy_out, w32_id, jdiv_nn, *] <;> first | done | omega) | (intros; simp (disch := omega) only [jst_eq, jst_ne, jst_ni, jst_o, jI_i, jcpy_out, w32_id, jdiv_nn] at * <;> first | done | omega | assumption) | (intros; first | rfl | (exfalso; omega) | ((repeat' apply And.intro) <;> first | assumption | rfl | omega | trivial))) -- o11 e2m
  · try dsimp only [Sum.elim_inl, Sum.elim_inr, jt2, jt3, jt4, jt5, jt6, jt7, jt8]
    refine ⟨?_, ?_, ?_, ?_⟩
    · omega -- o12 init.1
    · (intro j j0 j1; omega) -- o13 init.2
    · (intro c a b; rw [z]; exact c0 c a (by omega)) -- o14 init.3
    · (first | assumption | omega | ((try dsimp only [jt2, jt3, jt4]); first | omega | (simp (disch := omega) only [jst_eq, jst_ne, jst_ni, jst_o, jI_i, jcpy_out, w32_id, jdiv_nn, jshr_k, jand_255] <;> first | done | omega | assumption)) | (intros; simp (disch := omega) only [jst_eq, jst_ne, jst_ni, jst_o, jI_i, jcpy_out, w32_id, jdiv_nn, *] <;> first | done | omega) | (intros; simp (disch := omega) only [jst_eq, jst_ne, jst_ni, jst_o, jI_i, jcpy_out, w32_id, jdiv_nn] at * <;> first | done | omega | assumption) | (intros; first | rfl | (exfalso; omega) | ((repeat' apply And.intro) <;> first | assumption | rfl | omega | trivial))) -- o15 init.4
def lnC (h : AH) : Prop := (h 786 (-2) = 101 ∧ h 786 (-1) = 518400) ∧ (h 787 (-2) = 101 ∧ h 787 (-1) = 256000)
theorem vX14_startAnew {h : AH} {E : EV} {W : Int → Int → Int → VW} {pts : Int} {L : TB} (ln : lnC h) (x : isX16 (h 454 38) ∧ h 454 44 = L.1 ∧ 0 ≤ L.1 ∧ L.1 ≤ 120) (k : ∀ a, 0 ≤ a → a < L.1 → h (h 454 38 + 12) a = kch (L.2.1 a) ∧ 0 ≤ L.2.1 a ∧ L.2.1 a ≤ 2) : OK (gX14_startAnew h) (fun h' => (cM h' E W pts L) ∧ (∀ a s, ¬ ((a = 786 ∨ a = 787 ∨ a = 788 ∨ a = 789) ∧ 0 ≤ s) → h' a s = h a s)) := by
  have xx : h 454 38 = 476 ∨ h 454 38 = 615 := x.1
  unfold gX14_startAnew
  refine OK_jb (vX14_startAnew_l2 _ (by (first | assumption | omega | ((try dsimp only [jt2, jt3, jt4]); first | omega | (simp (disch := omega) only [jst_eq, jst_ne, jst_ni, jst_o, jI_i, jcpy_out, w32_id, jdiv_nn, jshr_k, jand_255] <;> first | done | omega | assumption)) | (intros; simp (disch := omega) only [jst_eq, jst_ne, jst_ni, jst_o, jI_i, jcpy_out, w32_id, jdiv_nn, *] <;> first | done | omega) | (intros; simp (disch := omega) only [jst_eq, jst_ne, jst_ni, jst_o, jI_i, jcpy_out, w32_id, jdiv_nn] at * <;> first | done | omega | assumption) | (intros; first | rfl | (exfalso; omega) | ((repeat' apply And.intro) <;> first | assumption | rfl | omega | trivial)))) (by exact ln.1)) (fun o1 r1 => ?_)
  try dsimp only [Sum.elim_inl, Sum.elim_inr, jt2, jt3, jt4, jt5, jt6, jt7, jt8] at r1
  obtain ⟨fu1, fr1⟩ := r1
  try simp (disch := omega) only [jst_eq, jst_ne, jst_ni, jI_i, jcmp_lt, jcmp_gt, w32_id, jcpy_out, Sum.elim_inl, Sum.elim_inr, jt2, jt3, jt4, jt5, jt6, jt7, jt8] at fu1
  try simp (disch := omega) only [jst_eq, jst_ne, jst_ni, jI_i, jcmp_lt, jcmp_gt, w32_id, jcpy_out, Sum.elim_inl, Sum.elim_inr, jt2, jt3, jt4, jt5, jt6, jt7, jt8] at fr1
  refine OK_jb (vX14_startAnew_l24 _ (by (first | assumption | omega | ((try dsimp only [jt2, jt3, jt4]); first | omega | (simp (disch := omega) only [jst_eq, jst_ne, jst_ni, jst_o, jI_i, jcpy_out, w32_id, jdiv_nn, jshr_k, jand_255] <;> first | done | omega | assumption)) | (intros; simp (disch := omega) only [jst_eq, jst_ne, jst_ni, jst_o, jI_i, jcpy_out, w32_id, jdiv_nn, *] <;> first | done | omega) | (intros; simp (disch := omega) only [jst_eq, jst_ne, jst_ni, jst_o, jI_i, jcpy_out, w32_id, jdiv_nn] at * <;> first | done | omega | assumption) | (intros; first | rfl | (exfalso; omega) | ((repeat' apply And.intro) <;> first | assumption | rfl | omega | trivial)))) (by exact ⟨by (rw [fr1 _ _ (by omega)]; exact ln.2.1), by (rw [fr1 _ _ (by omega)]; exact ln.2.2)⟩)) (fun o3 r2 => ?_)
  try dsimp only [Sum.elim_inl, Sum.elim_inr, jt2, jt3, jt4, jt5, jt6, jt7, jt8] at r2
  obtain ⟨fu2, fr2⟩ := r2
  try simp (disch := omega) only [jst_eq, jst_ne, jst_ni, jI_i, jcmp_lt, jcmp_gt, w32_id, jcpy_out, Sum.elim_inl, Sum.elim_inr, jt2, jt3, jt4, jt5, jt6, jt7, jt8] at fu2
  try simp (disch := omega) only [jst_eq, jst_ne, jst_ni, jI_i, jcmp_lt, jcmp_gt, w32_id, jcpy_out, Sum.elim_inl, Sum.elim_inr, jt2, jt3, jt4, jt5, jt6, jt7, jt8] at fr2
  refine OK_jb (vX14_startAnew_l46 _ (by (first | assumption | omega | ((try dsimp only [jt2, jt3, jt4]); first | omega | (simp (disch := omega) only [jst_eq, jst_ne, jst_ni, jst_o, jI_i, jcpy_out, w32_id, jdiv_nn, jshr_k, jand_255] <;> first | done | omega | assumption)) | (intros; simp (disch := omega) only [jst_eq, jst_ne, jst_ni, jst_o, jI_i, jcpy_out, w32_id, jdiv_nn, *] <;> first | done | omega) | (intros; simp (disch := omega) only [jst_eq, jst_ne, jst_ni, jst_o, jI_i, jcpy_out, w32_id, jdiv_nn] at * <;> first | done | omega | assumption) | (intros; first | rfl | (exfalso; omega) | ((repeat' apply And.intro) <;> first | assumption | rfl | omega | trivial))))) (fun o5 r3 => ?_)
  try dsimp only [Sum.elim_inl, Sum.elim_inr, jt2, jt3, jt4, jt5, jt6, jt7, jt8] at r3
  obtain ⟨fu3, fr3⟩ := r3
  try simp (disch := omega) only [jst_eq, jst_ne, jst_ni, jI_i, jcmp_lt, jcmp_gt, w32_id, jcpy_out, Sum.elim_inl, Sum.elim_inr, jt2, jt3, jt4, jt5, jt6, jt7, jt8] at fu3
  try simp (disch := omega) only [jst_eq, jst_ne, jst_ni, jI_i, jcmp_lt, jcmp_gt, w32_id, jcpy_out, Sum.elim_inl, Sum.elim_inr, jt2, jt3, jt4, jt5, jt6, jt7, jt8] at fr3
  have F5 : ∀ a s, ¬ ((a = 786 ∨ a = 787 ∨ a = 789) ∧ 0 ≤ s) → o5 a s = h a s := fun a s y => by { rw [fr3 a s (by omega), fr2 a s (by omega), fr1 a s (by omega)] }
  have e38 : o5 454 38 = h 454 38 := F5 _ _ (by omega)
  refine OK_jb (vX14_startAnew_l66 (N := L.1) (kd := L.2.1) _ (by exact ⟨by (rw [e38]; exact x.1), by (rw [F5 _ _ (by omega)]; exact x.2.1), x.2.2⟩) (by exact fun a a0 a1 => by (rw [e38, F5 _ _ (by omega)]; exact k a a0 a1)) (by exact fu3) (by rfl)) (fun o7 r4 => ?_)
  try dsimp only [Sum.elim_inl, Sum.elim_inr, jt2, jt3, jt4, jt5, jt6, jt7, jt8] at r4
  obtain ⟨rk4, fr4⟩ := r4
  try simp (disch := omega) only [jst_eq, jst_ne, jst_ni, jI_i, jcmp_lt, jcmp_gt, w32_id, jcpy_out, Sum.elim_inl, Sum.elim_inr, jt2, jt3, jt4, jt5, jt6, jt7, jt8] at rk4
  try simp (disch := omega) only [jst_eq, jst_ne, jst_ni, jI_i, jcmp_lt, jcmp_gt, w32_id, jcpy_out, Sum.elim_inl, Sum.elim_inr, jt2, jt3, jt4, jt5, jt6, jt7, jt8] at fr4
  have F7 : ∀ a s, ¬ ((a = 786 ∨ a = 787 ∨ a = 788 ∨ a = 789) ∧ 0 ≤ s) → o7 a s = h a s := fun a s y => by { rw [fr4 a s (by omega)]; exact F5 a s (by omega) }
  refine OK_some ?_
  try dsimp only [Sum.elim_inl, Sum.elim_inr, jt2, jt3, jt4, jt5, jt6, jt7, jt8]
  try dsimp only [Sum.elim_inl, Sum.elim_inr, jt2, jt3, jt4, jt5, jt6, jt7, jt8]
  refine ⟨?_, ?_⟩
  · exact ⟨by (rw [F7 _ _ (by omega)]; exact x.2.1), rk4, fun a x y a0 a1 x0 x1 y0 y1 => Or.inl (by (rw [fr4 _ _ (by omega), fr3 _ _ (by omega), fr2 _ _ (by omega)]; exact fu1 _ (by omega) (by omega))), fun a b c v => Or.inl (by (have r := a3_r (N := L.1.toNat) (fun j a b => (k j a (by omega)).2) (by omega) (by rw [show ((L.1.toNat : Nat) : Int) = L.1 by omega]; exact v); rw [fr4 _ _ (by omega), fr3 _ _ (by omega)]; exact fu2 _ r.1 r.2.1))⟩ -- o10 e1.1
  · exact F7 -- o11 e1.2
/-! m: what an act makes of functions that are there -/
theorem vX14_indexOf_l8f (i1 : Int) (i2 : Int) (i3 : Int) (a40 : Int) {h : AH} {N pts k : Int} {kd wt nd : Int → Int} {vl : Int → Int → Int} {u : Int → Int} (t : tbN h N kd wt nd vl pts) (hn : hsN h N vl pts) (kk : (∀ a, 0 ≤ a → a < N → 0 ≤ kd a ∧ kd a ≤ 2) ∧ 0 ≤ k ∧ k ≤ 2) (cc : ∀ p, 0 ≤ p → p < pts → h 754 p = u p) (i : i1 = kch k ∧ i2 = N ∧ i3 = hsT u 1 pts.toNat) (z : a40 = 0) : OK (gX14_indexOf_l8 i1 i2 i3 a40 h) (Sum.elim (fun o => 0 ≤ o ∧ o < N ∧ kd o = k ∧ eqV pts (vl o) u ∧ ∀ b, 0 ≤ b → b < o → ¬ (kd b = k ∧ eqV pts (vl b) u)) (fun _ => ∀ o, 0 ≤ o → o < N → ¬ (kd o = k ∧ eqV pts (vl o) u))) := by
  unfold gX14_indexOf_l8
  refine OK_jit (I := (fun (a4 : Int) => (0 ≤ a4 ∧ a4 ≤ N) ∧ (∀ o, 0 ≤ o → o < a4 → ¬ (kd o = k ∧ eqV pts (vl o) u)))) (m := (fun (a4 : Int) => (N - a4).toNat)) ?_ ?_
  · intro a4 hs
    try dsimp only at hs
    obtain ⟨q0, q1⟩ := hs
    unfold gX14_indexOf_b8
    obtain ⟨t1, t2, t3, t4, t6, t7, t8⟩ := t
    have xx : h 454 38 = 476 ∨ h 454 38 = 615 := t1
    refine OK_if (fun c1 => ?_) (fun c1 => ?_)
    · skip
      try simp (disch := omega) only [jst_eq, jst_ne, jst_ni, jI_i, jcmp_lt, jcmp_gt, w32_id, jcpy_out, Sum.elim_inl, Sum.elim_inr, jt2, jt3, jt4, jt5, jt6, jt7, jt8] at c1
      refine OK_ir ?_
      exact fun o o0 o1 => q1 o o0 (by omega) -- o1 e1
    · skip
      try simp (disch := omega) only [jst_eq, jst_ne, jst_ni, jI_i, jcmp_lt, jcmp_gt, w32_id, jcpy_out, Sum.elim_inl, Sum.elim_inr, jt2, jt3, jt4, jt5, jt6, jt7, jt8] at c1
      have T8 := t8 a4 q0.1 (by omega)
      have H8 := hn a4 q0.1 (by omega)
      have K8 := kk.1 a4 q0.1 (by omega)
      refine OK_jg (by (first | assumption | omega | ((try dsimp only [jt2, jt3, jt4]); first | omega | (simp (disch := omega) only [jst_eq, jst_ne, jst_ni, jst_o, jI_i, jcpy_out, w32_id, jdiv_nn, jshr_k, jand_255] <;> first | done | omega | assumption)) | (intros; simp (disch := omega) only [jst_eq, jst_ne, jst_ni, jst_o, jI_i, jcpy_out, w32_id, jdiv_nn, *] <;> first | done | omega) | (intros; simp (disch := omega) only [jst_eq, jst_ne, jst_ni, jst_o, jI_i, jcpy_out, w32_id, jdiv_nn] at * <;> first | done | omega | assumption) | (intros; first | rfl | (exfalso; omega) | ((repeat' apply And.intro) <;> first | assumption | rfl | omega | trivial)))) ?_ -- o2
      refine OK_jg (by (first | assumption | omega | ((try dsimp only [jt2, jt3, jt4]); first | omega | (simp (disch := omega) only [jst_eq, jst_ne, jst_ni, jst_o, jI_i, jcpy_out, w32_id, jdiv_nn, jshr_k, jand_255] <;> first | done | omega | assumption)) | (intros; simp (disch := omega) only [jst_eq, jst_ne, jst_ni, jst_o, jI_i, jcpy_out, w32_id, jdiv_nn, *] <;> first | done | omega) | (intros; simp (disch := omega) only [jst_eq, jst_ne, jst_ni, jst_o, jI_i, jcpy_out, w32_id, jdiv_nn] at * <;> first | done | omega | assumption) | (intros; first | rfl | (exfalso; omega) | ((repeat' apply And.intro) <;> first | assumption | rfl | omega | trivial)))) ?_ -- o3
      refine OK_if (fun c2 => ?_) (fun c2 => ?_)
      · skip
        try simp (disch := omega) only [jst_eq, jst_ne, jst_ni, jI_i, jcmp_lt, jcmp_gt, w32_id, jcpy_out, Sum.elim_inl, Sum.elim_inr, jt2, jt3, jt4, jt5, jt6, jt7, jt8] at c2
        refine OK_if (fun c3 => ?_) (fun c3 => ?_)
        · skip
          try simp (disch := omega) only [jst_eq, jst_ne, jst_ni, jI_i, jcmp_lt, jcmp_gt, w32_id, jcpy_out, Sum.elim_inl, Sum.elim_inr, jt2, jt3, jt4, jt5, jt6, jt7, jt8] at c3
          have ke : kd a4 = k := kch_ij K8 kk.2 (by { rw [← T8.1, ← i.1]; exact c3 })
          refine OK_jb (vX14_indexOf_l51 (pts := pts) (x := vl a4) (u := u) _ _ _ _ _ _ (by exact ⟨t1, t2, t3, t4, q0.1, by omega⟩) (by exact fun p p0 p1 => ⟨T8.2.2.2 p p0 p1, cc p p0 p1⟩) (by (first | assumption | omega | ((try dsimp only [jt2, jt3, jt4]); first | omega | (simp (disch := omega) only [jst_eq, jst_ne, jst_ni, jst_o, jI_i, jcpy_out, w32_id, jdiv_nn, jshr_k, jand_255] <;> first | done | omega | assumption)) | (intros; simp (disch := omega) only [jst_eq, jst_ne, jst_ni, jst_o, jI_i, jcpy_out, w32_id, jdiv_nn, *] <;> first | done | omega) | (intros; simp (disch := omega) only [jst_eq, jst_ne, jst_ni, jst_o, jI_i, jcpy_out, w32_id, jdiv_nn] at * <;> first | done | omega | assumption) | (intros; first | rfl | (exfalso; omega) | ((repeat' apply And.intro) <;> first | assumption | rfl | omega | trivial))))) (fun o10 r1 => ?_)
          try dsimp only [Sum.elim_inl, Sum.elim_inr, jt2, jt3, jt4, jt5, jt6, jt7, jt8] at r1
          have fv1 := r1
          clear r1
          try simp (disch := omega) only [jst_eq, jst_ne, jst_ni, jI_i, jcmp_lt, jcmp_gt, w32_id, jcpy_out, Sum.elim_inl, Sum.elim_inr, jt2, jt3, jt4, jt5, jt6, jt7, jt8] at fv1
          have e10 : (o10 = 0 ∧ ¬ eqV pts (vl a4) u) ∨ (o10 = 1 ∧ eqV pts (vl a4) u) := by first | assumption | exact fv1
          unfold gX14_indexOf_j104_8
          refine OK_if (fun c4 => ?_) (fun c4 => ?_)
          · skip
            try simp (disch := omega) only [jst_eq, jst_ne, jst_ni, jI_i, jcmp_lt, jcmp_gt, w32_id, jcpy_out, Sum.elim_inl, Sum.elim_inr, jt2, jt3, jt4, jt5, jt6, jt7, jt8] at c4
            unfold gX14_indexOf_j112_8
            refine OK_jlx (fun x13 ex13 => ?_)
            try simp (disch := omega) only [jst_eq, jst_ne, jst_ni, jI_i, jcmp_lt, jcmp_gt, w32_id, jcpy_out, Sum.elim_inl, Sum.elim_inr, jt2, jt3, jt4, jt5, jt6, jt7, jt8] at ex13
            refine OK_il ?_ ?_
            · try dsimp only [Sum.elim_inl, Sum.elim_inr, jt2, jt3, jt4, jt5, jt6, jt7, jt8]
              refine ⟨?_, ?_⟩
              · (first | assumption | omega | ((try dsimp only [jt2, jt3, jt4]); first | omega | (simp (disch := omega) only [jst_eq, jst_ne, jst_ni, jst_o, jI_i, jcpy_out, w32_id, jdiv_nn, jshr_k, jand_255] <;> first | done | omega | assumption)) | (intros; simp (disch := omega) only [jst_eq, jst_ne, jst_ni, jst_o, jI_i, jcpy_out, w32_id, jdiv_nn, *] <;> first | done | omega) | (intros; simp (disch := omega) only [jst_eq, jst_ne, jst_ni, jst_o, jI_i, jcpy_out, w32_id, jdiv_nn] at * <;> first | done | omega | assumption) | (intros; first | rfl | (exfalso; omega) | ((repeat' apply And.intro) <;> first | assumption | rfl | omega | trivial))) -- o7 e2i.1
              · (intro o o0 o1; by_cases y : o = a4; { rw [y]; rcases e10 with e | e; { exact fun k => e.2 k.2 }; { omega } }; { exact q1 o o0 (by omega) }) -- o8 e2i.2
            · (first | assumption | omega | ((try dsimp only [jt2, jt3, jt4]); first | omega | (simp (disch := omega) only [jst_eq, jst_ne, jst_ni, jst_o, jI_i, jcpy_out, w32_id, jdiv_nn, jshr_k, jand_255] <;> first | done | omega | assumption)) | (intros; simp (disch := omega) only [jst_eq, jst_ne, jst_ni, jst_o, jI_i, jcpy_out, w32_id, jdiv_nn, *] <;> first | done | omega) | (intros; simp (disch := omega) only [jst_eq, jst_ne, jst_ni, jst_o, jI_i, jcpy_out, w32_id, jdiv_nn] at * <;> first | done | omega | assumption) | (intros; first | rfl | (exfalso; omega) | ((repeat' apply And.intro) <;> first | assumption | rfl | omega | trivial))) -- o9 e2m
          · skip
            try simp (disch := omega) only [jst_eq, jst_ne, jst_ni, jI_i, jcmp_lt, jcmp_gt, w32_id, jcpy_out, Sum.elim_inl, Sum.elim_inr, jt2, jt3, jt4, jt5, jt6, jt7, jt8] at c4
            refine OK_ir ?_
            (refine ⟨q0.1, by omega, ke, ?_, q1⟩; rcases e10 with e | e; { omega }; { exact e.2 }) -- o10 e3
        · skip
          try simp (disch := omega) only [jst_eq, jst_ne, jst_ni, jI_i, jcmp_lt, jcmp_gt, w32_id, jcpy_out, Sum.elim_inl, Sum.elim_inr, jt2, jt3, jt4, jt5, jt6, jt7, jt8] at c3
          have ke : ¬ kd a4 = k := fun y => c3 (by { rw [T8.1, i.1, y] })
          unfold gX14_indexOf_j112_8
          refine OK_jlx (fun x13 ex13 => ?_)
          try simp (disch := omega) only [jst_eq, jst_ne, jst_ni, jI_i, jcmp_lt, jcmp_gt, w32_id, jcpy_out, Sum.elim_inl, Sum.elim_inr, jt2, jt3, jt4, jt5, jt6, jt7, jt8] at ex13
          refine OK_il ?_ ?_
          · try dsimp only [Sum.elim_inl, Sum.elim_inr, jt2, jt3, jt4, jt5, jt6, jt7, jt8]
            refine ⟨?_, ?_⟩
            · (first | assumption | omega | ((try dsimp only [jt2, jt3, jt4]); first | omega | (simp (disch := omega) only [jst_eq, jst_ne, jst_ni, jst_o, jI_i, jcpy_out, w32_id, jdiv_nn, jshr_k, jand_255] <;> first | done | omega | assumption)) | (intros; simp (disch := omega) only [jst_eq, jst_ne, jst_ni, jst_o, jI_i, jcpy_out, w32_id, jdiv_nn, *] <;> first | done | omega) | (intros; simp (disch := omega) only [jst_eq, jst_ne, jst_ni, jst_o, jI_i, jcpy_out, w32_id, jdiv_nn] at * <;> first | done | omega | assumption) | (intros; first | rfl | (exfalso; omega) | ((repeat' apply And.intro) <;> first | assumption | rfl | omega | trivial))) -- o11 e4i.1
            · (intro o o0 o1; by_cases y : o = a4; { rw [y]; exact fun k => ke k.1 }; { exact q1 o o0 (by omega) }) -- o12 e4i.2
          · (first | assumption | omega | ((try dsimp only [jt2, jt3, jt4]); first | omega | (simp (disch := omega) only [jst_eq, jst_ne, jst_ni, jst_o, jI_i, jcpy_out, w32_id, jdiv_nn, jshr_k, jand_255] <;> first | done | omega | assumption)) | (intros; simp (disch := omega) only [jst_eq, jst_ne, jst_ni, jst_o, jI_i, jcpy_out, w32_id, jdiv_nn, *] <;> first | done | omega) | (intros; simp (disch := omega) only [jst_eq, jst_ne, jst_ni, jst_o, jI_i, jcpy_out, w32_id, jdiv_nn] at * <;> first | done | omega | assumption) | (intros; first | rfl | (exfalso; omega) | ((repeat' apply And.intro) <;> first | assumption | rfl | omega | trivial))) -- o13 e4m
      · skip
        try simp (disch := omega) only [jst_eq, jst_ne, jst_ni, jI_i, jcmp_lt, jcmp_gt, w32_id, jcpy_out, Sum.elim_inl, Sum.elim_inr, jt2, jt3, jt4, jt5, jt6, jt7, jt8] at c2
        have nh : ¬ eqV pts (vl a4) u := fun y => by { have e := hsT_e (k := 1) y t3; rw [e, ← i.2.2] at H8; exact c2 H8 }
        unfold gX14_indexOf_j112_8
        refine OK_jlx (fun x13 ex13 => ?_)
        try simp (disch := omega) only [jst_eq, jst_ne, jst_ni, jI_i, jcmp_lt, jcmp_gt, w32_id, jcpy_out, Sum.elim_inl, Sum.elim_inr, jt2, jt3, jt4, jt5, jt6, jt7, jt8] at ex13
        refine OK_il ?_ ?_
        · try dsimp only [Sum.elim_inl, Sum.elim_inr, jt2, jt3, jt4, jt5, jt6, jt7, jt8]
          refine ⟨?_, ?_⟩
          · (first | assumption | omega | ((try dsimp only [jt2, jt3, jt4]); first | omega | (simp (disch := omega) only [jst_eq, jst_ne, jst_ni, jst_o, jI_i, jcpy_out, w32_id, jdiv_nn, jshr_k, jand_255] <;> first | done | omega | assumption)) | (intros; simp (disch := omega) only [jst_eq, jst_ne, jst_ni, jst_o, jI_i, jcpy_out, w32_id, jdiv_nn, *] <;> first | done | omega) | (intros; simp (disch := omega) only [jst_eq, jst_ne, jst_ni, jst_o, jI_i, jcpy_out, w32_id, jdiv_nn] at * <;> first | done | omega | assumption) | (intros; first | rfl | (exfalso; omega) | ((repeat' apply And.intro) <;> first | assumption | rfl | omega | trivial))) -- o14 e5i.1
          · (intro o o0 o1; by_cases y : o = a4; { rw [y]; exact fun k => nh k.2 }; { exact q1 o o0 (by omega) }) -- o15 e5i.2
        · (first | assumption | omega | ((try dsimp only [jt2, jt3, jt4]); first | omega | (simp (disch := omega) only [jst_eq, jst_ne, jst_ni, jst_o, jI_i, jcpy_out, w32_id, jdiv_nn, jshr_k, jand_255] <;> first | done | omega | assumption)) | (intros; simp (disch := omega) only [jst_eq, jst_ne, jst_ni, jst_o, jI_i, jcpy_out, w32_id, jdiv_nn, *] <;> first | done | omega) | (intros; simp (disch := omega) only [jst_eq, jst_ne, jst_ni, jst_o, jI_i, jcpy_out, w32_id, jdiv_nn] at * <;> first | done | omega | assumption) | (intros; first | rfl | (exfalso; omega) | ((repeat' apply And.intro) <;> first | assumption | rfl | omega | trivial))) -- o16 e5m
  · try dsimp only [Sum.elim_inl, Sum.elim_inr, jt2, jt3, jt4, jt5, jt6, jt7, jt8]
    refine ⟨?_, ?_⟩
    · (have := t.2.2.2.2.1; omega) -- o17 init.1
    · (first | assumption | omega | ((try dsimp only [jt2, jt3, jt4]); first | omega | (simp (disch := omega) only [jst_eq, jst_ne, jst_ni, jst_o, jI_i, jcpy_out, w32_id, jdiv_nn, jshr_k, jand_255] <;> first | done | omega | assumption)) | (intros; simp (disch := omega) only [jst_eq, jst_ne, jst_ni, jst_o, jI_i, jcpy_out, w32_id, jdiv_nn, *] <;> first | done | omega) | (intros; simp (disch := omega) only [jst_eq, jst_ne, jst_ni, jst_o, jI_i, jcpy_out, w32_id, jdiv_nn] at * <;> first | done | omega | assumption) | (intros; first | rfl | (exfalso; omega) | ((repeat' apply And.intro) <;> first | assumption | rfl | omega | trivial))) -- o18 init.2
theorem vX14_indexOf_f (a1 : Int) (a2 : Int) {h : AH} {N pts k : Int} {kd wt nd : Int → Int} {vl : Int → Int → Int} {u : Int → Int} (t : tbN h N kd wt nd vl pts) (hn : hsN h N vl pts) (kk : (∀ a, 0 ≤ a → a < N → 0 ≤ kd a ∧ kd a ≤ 2) ∧ 0 ≤ k ∧ k ≤ 2) (cc : ∀ p, 0 ≤ p → p < pts → h 754 p = u p) (i : a1 = kch k ∧ a2 = N) : OK (gX14_indexOf a1 a2 h) (fun v => (0 ≤ v ∧ v < N ∧ kd v = k ∧ eqV pts (vl v) u ∧ ∀ b, 0 ≤ b → b < v → ¬ (kd b = k ∧ eqV pts (vl b) u)) ∨ (v = -1 ∧ ∀ o, 0 ≤ o → o < N → ¬ (kd o = k ∧ eqV pts (vl o) u))) := by
  unfold gX14_indexOf
  refine OK_jb (vX14_hash (pts := pts) (u := u) (by exact ⟨t.1, t.2.1, t.2.2.1, t.2.2.2.1⟩) (by (first | assumption | omega | ((try dsimp only [jt2, jt3, jt4]); first | omega | (simp (disch := omega) only [jst_eq, jst_ne, jst_ni, jst_o, jI_i, jcpy_out, w32_id, jdiv_nn, jshr_k, jand_255] <;> first | done | omega | assumption)) | (intros; simp (disch := omega) only [jst_eq, jst_ne, jst_ni, jst_o, jI_i, jcpy_out, w32_id, jdiv_nn, *] <;> first | done | omega) | (intros; simp (disch := omega) only [jst_eq, jst_ne, jst_ni, jst_o, jI_i, jcpy_out, w32_id, jdiv_nn] at * <;> first | done | omega | assumption) | (intros; first | rfl | (exfalso; omega) | ((repeat' apply And.intro) <;> first | assumption | rfl | omega | trivial))))) (fun v2 r1 => ?_)
  try dsimp only [Sum.elim_inl, Sum.elim_inr, jt2, jt3, jt4, jt5, jt6, jt7, jt8] at r1
  have hh1 := r1
  clear r1
  try simp (disch := omega) only [jst_eq, jst_ne, jst_ni, jI_i, jcmp_lt, jcmp_gt, w32_id, jcpy_out, Sum.elim_inl, Sum.elim_inr, jt2, jt3, jt4, jt5, jt6, jt7, jt8] at hh1
  refine OK_jb (vX14_indexOf_l8f (N := N) (pts := pts) (k := k) (kd := kd) (wt := wt) (nd := nd) (vl := vl) (u := u) _ _ _ _ (by exact t) (by exact hn) (by exact kk) (by exact cc) (by (first | assumption | omega | ((try dsimp only [jt2, jt3, jt4]); first | omega | (simp (disch := omega) only [jst_eq, jst_ne, jst_ni, jst_o, jI_i, jcpy_out, w32_id, jdiv_nn, jshr_k, jand_255] <;> first | done | omega | assumption)) | (intros; simp (disch := omega) only [jst_eq, jst_ne, jst_ni, jst_o, jI_i, jcpy_out, w32_id, jdiv_nn, *] <;> first | done | omega) | (intros; simp (disch := omega) only [jst_eq, jst_ne, jst_ni, jst_o, jI_i, jcpy_out, w32_id, jdiv_nn] at * <;> first | done | omega | assumption) | (intros; first | rfl | (exfalso; omega) | ((repeat' apply And.intro) <;> first | assumption | rfl | omega | trivial)))) (by (first | assumption | omega | ((try dsimp only [jt2, jt3, jt4]); first | omega | (simp (disch := omega) only [jst_eq, jst_ne, jst_ni, jst_o, jI_i, jcpy_out, w32_id, jdiv_nn, jshr_k, jand_255] <;> first | done | omega | assumption)) | (intros; simp (disch := omega) only [jst_eq, jst_ne, jst_ni, jst_o, jI_i, jcpy_out, w32_id, jdiv_nn, *] <;> first | done | omega) | (intros; simp (disch := omega) only [jst_eq, jst_ne, jst_ni, jst_o, jI_i, jcpy_out, w32_id, jdiv_nn] at * <;> first | done | omega | assumption) | (intros; first | rfl | (exfalso; omega) | ((repeat' apply And.intro) <;> first | assumption | rfl | omega | trivial))))) (fun o3 r2 => ?_)
  rcases o3 with o5 | o6
  · skip
    have r3 := r2; clear r2
    dsimp only [Sum.elim_inl, Sum.elim_inr] at r3
    try dsimp only [Sum.elim_inl, Sum.elim_inr, jt2, jt3, jt4, jt5, jt6, jt7, jt8] at r3
    have fo2 := r3
    clear r3
    try simp (disch := omega) only [jst_eq, jst_ne, jst_ni, jI_i, jcmp_lt, jcmp_gt, w32_id, jcpy_out, Sum.elim_inl, Sum.elim_inr, jt2, jt3, jt4, jt5, jt6, jt7, jt8] at fo2
    refine OK_jml ?_
    refine OK_some ?_
    try dsimp only [Sum.elim_inl, Sum.elim_inr, jt2, jt3, jt4, jt5, jt6, jt7, jt8]
    exact Or.inl fo2 -- o9 e1
  · skip
    have r4 := r2; clear r2
    dsimp only [Sum.elim_inl, Sum.elim_inr] at r4
    try dsimp only [Sum.elim_inl, Sum.elim_inr, jt2, jt3, jt4, jt5, jt6, jt7, jt8] at r4
    have no3 := r4
    clear r4
    try simp (disch := omega) only [jst_eq, jst_ne, jst_ni, jI_i, jcmp_lt, jcmp_gt, w32_id, jcpy_out, Sum.elim_inl, Sum.elim_inr, jt2, jt3, jt4, jt5, jt6, jt7, jt8] at no3
    refine OK_jmr ?_
    refine OK_some ?_
    try dsimp only [Sum.elim_inl, Sum.elim_inr, jt2, jt3, jt4, jt5, jt6, jt7, jt8]
    exact Or.inr ⟨rfl, no3⟩ -- o10 e2
/-- a function of the levels is found at its place -/
theorem vIX (a1 a2 : Int) {h : AH} {E : EV} {Rf : Int → TR} {W : Int → Int → Int → VW} {K : AK} {tp k : Int} {p : Nat} {T : TB} {u : Int → Int} (xt : MT h E W K tp p T) (cc : ∀ q, 0 ≤ q → q < kP K → h 754 q = u q) (i : a1 = kch k ∧ a2 = T.1 ∧ 0 ≤ k ∧ k ≤ 2) (hs : hasT (kP K) (LV E W (kP K) (kA K) p) k u) : OK (gX14_indexOf a1 a2 h) (fun v => v = ixT (kP K) (LV E W (kP K) (kA K) p) k u) := by
  refine OK_mono (vX14_indexOf_f (N := T.1) (pts := kP K) (k := k) (kd := T.2.1) (wt := T.2.2.1) (nd := fun a => tp + a) (vl := T.2.2.2.2.2) (u := u) a1 a2 xt.1.2.1 xt.1.2.2.1 ⟨fun a a0 a1 => (xt.1.2.2.2 a a0 a1).1, i.2.2⟩ cc ⟨i.1, i.2.1⟩) (fun v ix => ?_)
  have g := ixT_h hs
  have q := xt.2.2.1.2 _ g.1 g.2.1
  have l := xt.2.2.1.1
  have gg : T.2.1 (ixT (kP K) (LV E W (kP K) (kA K) p) k u) = k ∧ eqV (kP K) (T.2.2.2.2.2 (ixT (kP K) (LV E W (kP K) (kA K) p) k u)) u := ⟨q.1.trans g.2.2.1, by rw [q.2.2.2.2]; exact g.2.2.2⟩
  rcases ix with ⟨i1, i2, i3, i4, i5⟩ | ⟨_, i2⟩
  · have le : v ≤ ixT (kP K) (LV E W (kP K) (kA K) p) k u := by
      by_cases y : v ≤ ixT (kP K) (LV E W (kP K) (kA K) p) k u
      · exact y
      · exact absurd gg (i5 _ g.1 (by omega))
    have r := xt.2.2.1.2 v i1 (by omega)
    exact (ixT_u xt.2.2.2.2.2.2.1.2.2.2.1 i1 (by omega) (by rw [← r.1]; exact i3) (by rw [← r.2.2.2.2]; exact i4)).symm
  · exact absurd gg (i2 _ g.1 (by omega))

