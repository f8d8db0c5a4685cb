/-! what acts that are given give -/
def wtu : Nat → Int → Int → Int
  | 0, a, _ => a
  | n + 1, a, v => if v ≤ 0 then a else wtu n (a * 27 + v % 27) (v / 27)
theorem pow27_6 {n : Nat} (h : n + 1 ≤ 6) : pow27 (6 - n) = pow27 (6 - (n + 1)) * 27 := by
  rcases (show n = 0 ∨ n = 1 ∨ n = 2 ∨ n = 3 ∨ n = 4 ∨ n = 5 by omega) with rfl | rfl | rfl | rfl | rfl | rfl <;> decide
theorem wtu_r : ∀ (n : Nat) (a v : Int), n ≤ 6 → 0 ≤ a → a < pow27 (6 - n) → 0 ≤ v → 0 ≤ wtu n a v ∧ wtu n a v < 387420489
  | 0, a, v, _, h0, h1, _ => ⟨h0, by have : pow27 (6 - 0) = 387420489 := (by decide); show a < _; omega⟩
  | n + 1, a, v, hn, h0, h1, hv => by
    have e := pow27_6 (n := n) hn
    show 0 ≤ (if v ≤ 0 then a else wtu n (a * 27 + v % 27) (v / 27)) ∧ (if v ≤ 0 then a else wtu n (a * 27 + v % 27) (v / 27)) < _
    by_cases q : v ≤ 0
    · rw [if_pos q]
      have := pow27_le (n := 6 - (n + 1)) (by omega)
      exact ⟨h0, by omega⟩
    · rw [if_neg q]
      exact wtu_r n _ _ (by omega) (by omega) (by omega) (by omega)
theorem wtu_0 {n : Nat} {a v : Int} (h : v ≤ 0) : wtu n a v = a := by
  cases n with
  | zero => rfl
  | succ n => exact if_pos h
theorem vX14_turned_l4 (a10 : Int) (a20 : Int) (x : 0 ≤ a20 ∧ a20 < 387420489 ∧ a10 = 0) : OK (gX14_turned_l4 a10 a20) (fun v => v = wtu 6 0 a20) := by
  unfold gX14_turned_l4
  refine OK_jit (I := (fun (s : Int × Int) => jt2 s fun a1 a2 => (0 ≤ a2 ∧ a2 < 387420489) ∧ (∃ n : Nat, n ≤ 6 ∧ a2 < pow27 n ∧ 0 ≤ a1 ∧ a1 < pow27 (6 - n) ∧ wtu n a1 a2 = wtu 6 0 a20))) (m := (fun (s : Int × Int) => jt2 s fun a1 a2 => a2.toNat)) ?_ ?_
  · intro s hs
    obtain ⟨a1, a2⟩ := s
    dsimp only [Sum.elim_inl, Sum.elim_inr, jt2, jt3, jt4, jt5, jt6, jt7, jt8] at hs
    obtain ⟨q0, q1⟩ := hs
    unfold gX14_turned_b4
    refine OK_jt2 ?_
    obtain ⟨n, n0, n1, n2, n3, n4⟩ := q1
    refine OK_if (fun c1 => ?_) (fun c1 => ?_)
    · skip
      try simp (disch := omega) only [jst_eq, jst_ne, jst_ni, jI_i, jcmp_lt, jcmp_gt, w32_id, jcpy_out, Sum.elim_inl, Sum.elim_inr, jt2, jt3, jt4, jt5, jt6, jt7, jt8] at c1
      refine OK_ir ?_
      (rw [wtu_0 c1] at n4; omega) -- o1 e1
    · skip
      try simp (disch := omega) only [jst_eq, jst_ne, jst_ni, jI_i, jcmp_lt, jcmp_gt, w32_id, jcpy_out, Sum.elim_inl, Sum.elim_inr, jt2, jt3, jt4, jt5, jt6, jt7, jt8] at c1
      obtain ⟨n, rfl⟩ : ∃ k, n = k + 1 := ⟨n - 1, by { cases n with | zero => { have : pow27 0 = 1 := rfl; omega } | succ n => { omega } }⟩
      have d1 : jdiv a2 27 = a2 / 27 := jdiv_nn (by omega) (by omega) (by decide) (by decide)
      have d2 : jrem a2 27 = a2 % 27 := jrem_nn (by omega) (by omega) (by decide) (by decide)
      have n5 : pow27 (n + 1) = pow27 n * 27 := rfl
      have n6 := pow27_6 n0
      have n7 : wtu (n + 1) a1 a2 = wtu n (a1 * 27 + a2 % 27) (a2 / 27) := if_neg c1
      have n8 := pow27_le (n := 6 - n) (by omega)
      have n9 : w32 (w32 (a1 * 27) + jrem a2 27) = a1 * 27 + a2 % 27 := by { rw [d2, w32_id (x := a1 * 27) (by omega) (by omega), w32_id (by omega) (by omega)] }
      refine OK_jlx (fun x4 ex4 => ?_)
      try simp (disch := omega) only [jst_eq, jst_ne, jst_ni, jI_i, jcmp_lt, jcmp_gt, w32_id, jcpy_out, Sum.elim_inl, Sum.elim_inr, jt2, jt3, jt4, jt5, jt6, jt7, jt8] at ex4
      refine OK_jlx (fun x5 ex5 => ?_)
      try simp (disch := omega) only [jst_eq, jst_ne, jst_ni, jI_i, jcmp_lt, jcmp_gt, w32_id, jcpy_out, Sum.elim_inl, Sum.elim_inr, jt2, jt3, jt4, jt5, jt6, jt7, jt8] at ex5
      refine OK_il ?_ ?_
      · try dsimp only [Sum.elim_inl, Sum.elim_inr, jt2, jt3, jt4, jt5, jt6, jt7, jt8]
        refine ⟨?_, ?_⟩
        · (first | assumption | omega | ((try dsimp only [jt2, jt3, jt4]); first | omega | (simp (disch := omega) only [jst_eq, jst_ne, jst_ni, jst_o, jI_i, jcpy_out, w32_id, jdiv_nn, jshr_k, jand_255] <;> first | done | omega | assumption)) | (intros; simp (disch := omega) only [jst_eq, jst_ne, jst_ni, jst_o, jI_i, jcpy_out, w32_id, jdiv_nn, *] <;> first | done | omega) | (intros; simp (disch := omega) only [jst_eq, jst_ne, jst_ni, jst_o, jI_i, jcpy_out, w32_id, jdiv_nn] at * <;> first | done | omega | assumption) | (intros; first | rfl | (exfalso; omega) | ((repeat' apply And.intro) <;> first | assumption | rfl | omega | trivial))) -- o2 e2i.1
        · (show ∃ n : Nat, n ≤ 6 ∧ x5 < pow27 n ∧ 0 ≤ x4 ∧ x4 < pow27 (6 - n) ∧ wtu n x4 x5 = wtu 6 0 a20; exact ⟨n, by omega, by omega, by omega, by omega, by rw [ex4, ex5, d1, d2, ← n7]; exact n4⟩) -- o3 e2i.2
      · (show x5.toNat < a2.toNat; omega) -- o4 e2m
  · try dsimp only [Sum.elim_inl, Sum.elim_inr, jt2, jt3, jt4, jt5, jt6, jt7, jt8]
    refine ⟨?_, ?_⟩
    · (first | assumption | omega | ((try dsimp only [jt2, jt3, jt4]); first | omega | (simp (disch := omega) only [jst_eq, jst_ne, jst_ni, jst_o, jI_i, jcpy_out, w32_id, jdiv_nn, jshr_k, jand_255] <;> first | done | omega | assumption)) | (intros; simp (disch := omega) only [jst_eq, jst_ne, jst_ni, jst_o, jI_i, jcpy_out, w32_id, jdiv_nn, *] <;> first | done | omega) | (intros; simp (disch := omega) only [jst_eq, jst_ne, jst_ni, jst_o, jI_i, jcpy_out, w32_id, jdiv_nn] at * <;> first | done | omega | assumption) | (intros; first | rfl | (exfalso; omega) | ((repeat' apply And.intro) <;> first | assumption | rfl | omega | trivial))) -- o5 init.1
    · (show ∃ n : Nat, n ≤ 6 ∧ a20 < pow27 n ∧ 0 ≤ a10 ∧ a10 < pow27 (6 - n) ∧ wtu n a10 a20 = wtu 6 0 a20; refine ⟨6, by decide, ?_, by omega, by rw [x.2.2]; decide, by rw [x.2.2]⟩; have : pow27 6 = 387420489 := (by decide); omega) -- o6 init.2
theorem vX14_turned (a0 : Int) (x : 0 ≤ a0 ∧ a0 < 387420489) : OK (gX14_turned a0) (fun v => v = wtu 6 0 a0) := by
  unfold gX14_turned
  refine OK_jb (vX14_turned_l4 _ _ (by (first | assumption | omega | ((try dsimp only [jt2, jt3, jt4]); first | omega | (simp (disch := omega) only [jst_eq, jst_ne, jst_ni, jst_o, jI_i, jcpy_out, w32_id, jdiv_nn, jshr_k, jand_255] <;> first | done | omega | assumption)) | (intros; simp (disch := omega) only [jst_eq, jst_ne, jst_ni, jst_o, jI_i, jcpy_out, w32_id, jdiv_nn, *] <;> first | done | omega) | (intros; simp (disch := omega) only [jst_eq, jst_ne, jst_ni, jst_o, jI_i, jcpy_out, w32_id, jdiv_nn] at * <;> first | done | omega | assumption) | (intros; first | rfl | (exfalso; omega) | ((repeat' apply And.intro) <;> first | assumption | rfl | omega | trivial))))) (fun o1 r1 => ?_)
  try dsimp only [Sum.elim_inl, Sum.elim_inr, jt2, jt3, jt4, jt5, jt6, jt7, jt8] at r1
  have v1 := r1
  clear r1
  try simp (disch := omega) only [jst_eq, jst_ne, jst_ni, jI_i, jcmp_lt, jcmp_gt, w32_id, jcpy_out, Sum.elim_inl, Sum.elim_inr, jt2, jt3, jt4, jt5, jt6, jt7, jt8] at v1
  refine OK_some ?_
  try dsimp only [Sum.elim_inl, Sum.elim_inr, jt2, jt3, jt4, jt5, jt6, jt7, jt8]
  (first | assumption | omega | ((try dsimp only [jt2, jt3, jt4]); first | omega | (simp (disch := omega) only [jst_eq, jst_ne, jst_ni, jst_o, jI_i, jcpy_out, w32_id, jdiv_nn, jshr_k, jand_255] <;> first | done | omega | assumption)) | (intros; simp (disch := omega) only [jst_eq, jst_ne, jst_ni, jst_o, jI_i, jcpy_out, w32_id, jdiv_nn, *] <;> first | done | omega) | (intros; simp (disch := omega) only [jst_eq, jst_ne, jst_ni, jst_o, jI_i, jcpy_out, w32_id, jdiv_nn] at * <;> first | done | omega | assumption) | (intros; first | rfl | (exfalso; omega) | ((repeat' apply And.intro) <;> first | assumption | rfl | omega | trivial))) -- o2 e1
/-- what an act gives for two operands that are no errors -/
def plP (a x y : Int) : Int :=
  if a = 0 then (x + y) % 16 else if a = 1 then (x - y) % 16 else if a = 2 then (x * y) % 16
  else if a = 3 then (if y = 0 then -1 else x / y) else if a = 4 then (if y = 0 then -1 else x % y)
  else if a = 5 then min x y else if a = 6 then max x y else if a = 7 then jand x y else if a = 8 then jor x y else if a = 9 then jxor x y
  else if a = 10 then (if y ≤ x then 0 else 1) else if a = 11 then (if x = y then 1 else 0) else if a = 12 then 1 - x
  else if a = 13 then jand x y else if a = 14 then jor x y
  else if a = 17 then (if wlen 7 x + wlen 7 y ≤ 6 then x * pow27 (wlen 7 y).toNat + y else -1)
  else if a = 18 then wlen 7 x else if a = 19 then wfr x y else if a = 20 then wbh x y else if a = 21 then wtu 6 0 x
  else if a = 22 then (if x = 0 then -1 else wfr x 1) else if a = 23 then (if x = y then 1 else 0)
  else if a = 24 then (if x = 0 then -1 else (wfr x 1 - 1) % 16) else x + 1
theorem wlen_lt : ∀ {n : Nat} {v : Int}, 0 ≤ v → v < pow27 n → v < pow27 (wlen n v).toNat
  | 0, v, _, h => h
  | n + 1, v, h0, h => by
    have e : wlen (n + 1) v = if v ≤ 0 then 0 else wlen n (v / 27) + 1 := rfl
    rw [e]
    by_cases q : v ≤ 0
    · rw [if_pos q]; have : pow27 (0 : Int).toNat = 1 := rfl; omega
    · rw [if_neg q]
      have e2 : pow27 (n + 1) = pow27 n * 27 := rfl
      have ih := wlen_lt (n := n) (v := v / 27) (by omega) (by omega)
      have r := (wlen_r n (v / 27)).1
      rw [show (wlen n (v / 27) + 1).toNat = (wlen n (v / 27)).toNat + 1 by omega]
      show v < pow27 _ * 27
      omega
theorem pow27_add (a : Nat) : ∀ b : Nat, pow27 (a + b) = pow27 a * pow27 b
  | 0 => by show pow27 a = pow27 a * 1; omega
  | b + 1 => by
    show pow27 (a + b) * 27 = pow27 a * (pow27 b * 27)
    rw [pow27_add a b, Int.mul_assoc]
theorem join_r {x y : Int} (x0 : 0 ≤ x) (x1 : x < 387420489) (y0 : 0 ≤ y) (y1 : y < 387420489) (h : wlen 7 x + wlen 7 y ≤ 6) : 0 ≤ x * pow27 (wlen 7 y).toNat ∧ x * pow27 (wlen 7 y).toNat + y < 387420489 ∧ 0 ≤ x * pow27 (wlen 7 y).toNat + y := by
  have p7 : pow27 7 = 10460353203 := by decide
  have a := wlen_lt (n := 7) x0 (by omega)
  have b := wlen_lt (n := 7) y0 (by omega)
  have rx := (wlen_r 7 x).1
  have ry := (wlen_r 7 y).1
  have c : (wlen 7 x).toNat + (wlen 7 y).toNat ≤ 6 := by omega
  have d := pow27_le c
  rw [pow27_add] at d
  generalize (wlen 7 x).toNat = m at *
  generalize (wlen 7 y).toNat = n at *
  have p := pow27_p n
  have e : (x + 1) * pow27 n ≤ pow27 m * pow27 n := Int.mul_le_mul_of_nonneg_right (by omega) (by omega)
  rw [Int.add_mul, Int.one_mul] at e
  have f : 0 ≤ x * pow27 n := Int.mul_nonneg x0 (by omega)
  omega
theorem wfr_r {x n : Int} (h : 0 ≤ x) : 0 ≤ wfr x n ∧ wfr x n ≤ x := by
  unfold wfr
  by_cases q : n < wlen 7 x
  · rw [if_pos q]
    have p := pow27_p (wlen 7 x - n).toNat
    exact ⟨Int.ediv_nonneg h (by omega), Int.ediv_le_self _ h⟩
  · rw [if_neg q]; omega
def argP (a x y : Int) : Prop := (a ≤ 16 ∨ a = 25 → 0 ≤ x ∧ x ≤ 15 ∧ 0 ≤ y ∧ y ≤ 15) ∧ (17 ≤ a ∧ a ≤ 24 → 0 ≤ x ∧ x < 387420489) ∧ (a = 17 ∨ a = 23 → 0 ≤ y ∧ y < 387420489) ∧ (a = 19 ∨ a = 20 → 0 ≤ y ∧ y ≤ 15)
theorem vX14_plain (a0 : Int) (a1 : Int) (a2 : Int) (ar : argP a0 a1 a2) (aa : 0 ≤ a0 ∧ a0 ≤ 25 ∧ a0 ≠ 15 ∧ a0 ≠ 16) : OK (gX14_plain a0 a1 a2) (fun v => v = plP a0 a1 a2) := by
  obtain ⟨g1, g2, g3, g4⟩ := ar
  have mm : a0 ≤ 14 → 0 ≤ a1 * a2 ∧ a1 * a2 ≤ 225 := fun z => by { have q := g1 (Or.inl (by omega)); exact ⟨Int.mul_nonneg q.1 q.2.2.1, by { have := Int.mul_le_mul q.2.1 q.2.2.2 q.2.2.1 (by decide : (0 : Int) ≤ 15); omega }⟩ }
  unfold gX14_plain
  refine OK_if (fun c1 => ?_) (fun c1 => ?_)
  · skip
    try simp (disch := omega) only [jst_eq, jst_ne, jst_ni, jI_i, jcmp_lt, jcmp_gt, w32_id, jcpy_out, Sum.elim_inl, Sum.elim_inr, jt2, jt3, jt4, jt5, jt6, jt7, jt8] at c1
    unfold gX14_plain_j296
    refine OK_some ?_
    try dsimp only [Sum.elim_inl, Sum.elim_inr, jt2, jt3, jt4, jt5, jt6, jt7, jt8]
    (first | ((unfold plP; (repeat first | rw [if_pos (by omega)] | rw [if_neg (by omega)]); done)) | ((unfold plP; (repeat first | rw [if_pos (by omega)] | rw [if_neg (by omega)]); (try simp only [jand_15]); (try rw [w32_id (by omega) (by omega)]); done)) | ((unfold plP; (repeat first | rw [if_pos (by omega)] | rw [if_neg (by omega)]); (try simp only [jand_15]); (try rw [w32_id (by omega) (by omega)]); omega)) | (first | assumption | omega | ((try dsimp only [jt2, jt3, jt4]); first | omega | (simp (disch := omega) only [jst_eq, jst_ne, jst_ni, jst_o, jI_i, jcpy_out, w32_id, jdiv_nn, jshr_k, jand_255] <;> first | done | omega | assumption)) | (intros; simp (disch := omega) only [jst_eq, jst_ne, jst_ni, jst_o, jI_i, jcpy_out, w32_id, jdiv_nn, *] <;> first | done | omega) | (intros; simp (disch := omega) only [jst_eq, jst_ne, jst_ni, jst_o, jI_i, jcpy_out, w32_id, jdiv_nn] at * <;> first | done | omega | assumption) | (intros; first | rfl | (exfalso; omega) | ((repeat' apply And.intro) <;> first | assumption | rfl | omega | trivial)))) -- o1 e1
  · skip
    try simp (disch := omega) only [jst_eq, jst_ne, jst_ni, jI_i, jcmp_lt, jcmp_gt, w32_id, jcpy_out, Sum.elim_inl, Sum.elim_inr, jt2, jt3, jt4, jt5, jt6, jt7, jt8] at c1
    refine OK_if (fun c2 => ?_) (fun c2 => ?_)
    · skip
      try simp (disch := omega) only [jst_eq, jst_ne, jst_ni, jI_i, jcmp_lt, jcmp_gt, w32_id, jcpy_out, Sum.elim_inl, Sum.elim_inr, jt2, jt3, jt4, jt5, jt6, jt7, jt8] at c2
      refine OK_some ?_
      try dsimp only [Sum.elim_inl, Sum.elim_inr, jt2, jt3, jt4, jt5, jt6, jt7, jt8]
      (first | ((unfold plP; (repeat first | rw [if_pos (by omega)] | rw [if_neg (by omega)]); done)) | ((unfold plP; (repeat first | rw [if_pos (by omega)] | rw [if_neg (by omega)]); (try simp only [jand_15]); (try rw [w32_id (by omega) (by omega)]); done)) | ((unfold plP; (repeat first | rw [if_pos (by omega)] | rw [if_neg (by omega)]); (try simp only [jand_15]); (try rw [w32_id (by omega) (by omega)]); omega)) | (first | assumption | omega | ((try dsimp only [jt2, jt3, jt4]); first | omega | (simp (disch := omega) only [jst_eq, jst_ne, jst_ni, jst_o, jI_i, jcpy_out, w32_id, jdiv_nn, jshr_k, jand_255] <;> first | done | omega | assumption)) | (intros; simp (disch := omega) only [jst_eq, jst_ne, jst_ni, jst_o, jI_i, jcpy_out, w32_id, jdiv_nn, *] <;> first | done | omega) | (intros; simp (disch := omega) only [jst_eq, jst_ne, jst_ni, jst_o, jI_i, jcpy_out, w32_id, jdiv_nn] at * <;> first | done | omega | assumption) | (intros; first | rfl | (exfalso; omega) | ((repeat' apply And.intro) <;> first | assumption | rfl | omega | trivial)))) -- o2 e2
    · skip
      try simp (disch := omega) only [jst_eq, jst_ne, jst_ni, jI_i, jcmp_lt, jcmp_gt, w32_id, jcpy_out, Sum.elim_inl, Sum.elim_inr, jt2, jt3, jt4, jt5, jt6, jt7, jt8] at c2
      refine OK_if (fun c3 => ?_) (fun c3 => ?_)
      · skip
        try simp (disch := omega) only [jst_eq, jst_ne, jst_ni, jI_i, jcmp_lt, jcmp_gt, w32_id, jcpy_out, Sum.elim_inl, Sum.elim_inr, jt2, jt3, jt4, jt5, jt6, jt7, jt8] at c3
        refine OK_some ?_
        try dsimp only [Sum.elim_inl, Sum.elim_inr, jt2, jt3, jt4, jt5, jt6, jt7, jt8]
        (first | ((unfold plP; (repeat first | rw [if_pos (by omega)] | rw [if_neg (by omega)]); done)) | ((unfold plP; (repeat first | rw [if_pos (by omega)] | rw [if_neg (by omega)]); (try simp only [jand_15]); (try rw [w32_id (by omega) (by omega)]); done)) | ((unfold plP; (repeat first | rw [if_pos (by omega)] | rw [if_neg (by omega)]); (try simp only [jand_15]); (try rw [w32_id (by omega) (by omega)]); omega)) | (first | assumption | omega | ((try dsimp only [jt2, jt3, jt4]); first | omega | (simp (disch := omega) only [jst_eq, jst_ne, jst_ni, jst_o, jI_i, jcpy_out, w32_id, jdiv_nn, jshr_k, jand_255] <;> first | done | omega | assumption)) | (intros; simp (disch := omega) only [jst_eq, jst_ne, jst_ni, jst_o, jI_i, jcpy_out, w32_id, jdiv_nn, *] <;> first | done | omega) | (intros; simp (disch := omega) only [jst_eq, jst_ne, jst_ni, jst_o, jI_i, jcpy_out, w32_id, jdiv_nn] at * <;> first | done | omega | assumption) | (intros; first | rfl | (exfalso; omega) | ((repeat' apply And.intro) <;> first | assumption | rfl | omega | trivial)))) -- o3 e3
      · skip
        try simp (disch := omega) only [jst_eq, jst_ne, jst_ni, jI_i, jcmp_lt, jcmp_gt, w32_id, jcpy_out, Sum.elim_inl, Sum.elim_inr, jt2, jt3, jt4, jt5, jt6, jt7, jt8] at c3
        refine OK_if (fun c4 => ?_) (fun c4 => ?_)
        · skip
          try simp (disch := omega) only [jst_eq, jst_ne, jst_ni, jI_i, jcmp_lt, jcmp_gt, w32_id, jcpy_out, Sum.elim_inl, Sum.elim_inr, jt2, jt3, jt4, jt5, jt6, jt7, jt8] at c4
          refine OK_some ?_
          try dsimp only [Sum.elim_inl, Sum.elim_inr, jt2, jt3, jt4, jt5, jt6, jt7, jt8]
          (first | ((unfold plP; (repeat first | rw [if_pos (by omega)] | rw [if_neg (by omega)]); done)) | ((unfold plP; (repeat first | rw [if_pos (by omega)] | rw [if_neg (by omega)]); (try simp only [jand_15]); (try rw [w32_id (by omega) (by omega)]); done)) | ((unfold plP; (repeat first | rw [if_pos (by omega)] | rw [if_neg (by omega)]); (try simp only [jand_15]); (try rw [w32_id (by omega) (by omega)]); omega)) | (first | assumption | omega | ((try dsimp only [jt2, jt3, jt4]); first | omega | (simp (disch := omega) only [jst_eq, jst_ne, jst_ni, jst_o, jI_i, jcpy_out, w32_id, jdiv_nn, jshr_k, jand_255] <;> first | done | omega | assumption)) | (intros; simp (disch := omega) only [jst_eq, jst_ne, jst_ni, jst_o, jI_i, jcpy_out, w32_id, jdiv_nn, *] <;> first | done | omega) | (intros; simp (disch := omega) only [jst_eq, jst_ne, jst_ni, jst_o, jI_i, jcpy_out, w32_id, jdiv_nn] at * <;> first | done | omega | assumption) | (intros; first | rfl | (exfalso; omega) | ((repeat' apply And.intro) <;> first | assumption | rfl | omega | trivial)))) -- o4 e4
        · skip
          try simp (disch := omega) only [jst_eq, jst_ne, jst_ni, jI_i, jcmp_lt, jcmp_gt, w32_id, jcpy_out, Sum.elim_inl, Sum.elim_inr, jt2, jt3, jt4, jt5, jt6, jt7, jt8] at c4
          refine OK_if (fun c5 => ?_) (fun c5 => ?_)
          · skip
            try simp (disch := omega) only [jst_eq, jst_ne, jst_ni, jI_i, jcmp_lt, jcmp_gt, w32_id, jcpy_out, Sum.elim_inl, Sum.elim_inr, jt2, jt3, jt4, jt5, jt6, jt7, jt8] at c5
            refine OK_if (fun c6 => ?_) (fun c6 => ?_)
            · skip
              try simp (disch := omega) only [jst_eq, jst_ne, jst_ni, jI_i, jcmp_lt, jcmp_gt, w32_id, jcpy_out, Sum.elim_inl, Sum.elim_inr, jt2, jt3, jt4, jt5, jt6, jt7, jt8] at c6
              refine OK_some ?_
              try dsimp only [Sum.elim_inl, Sum.elim_inr, jt2, jt3, jt4, jt5, jt6, jt7, jt8]
              (first | ((unfold plP; (repeat first | rw [if_pos (by omega)] | rw [if_neg (by omega)]); done)) | ((unfold plP; (repeat first | rw [if_pos (by omega)] | rw [if_neg (by omega)]); (try simp only [jand_15]); (try rw [w32_id (by omega) (by omega)]); done)) | ((unfold plP; (repeat first | rw [if_pos (by omega)] | rw [if_neg (by omega)]); (try simp only [jand_15]); (try rw [w32_id (by omega) (by omega)]); omega)) | (first | assumption | omega | ((try dsimp only [jt2, jt3, jt4]); first | omega | (simp (disch := omega) only [jst_eq, jst_ne, jst_ni, jst_o, jI_i, jcpy_out, w32_id, jdiv_nn, jshr_k, jand_255] <;> first | done | omega | assumption)) | (intros; simp (disch := omega) only [jst_eq, jst_ne, jst_ni, jst_o, jI_i, jcpy_out, w32_id, jdiv_nn, *] <;> first | done | omega) | (intros; simp (disch := omega) only [jst_eq, jst_ne, jst_ni, jst_o, jI_i, jcpy_out, w32_id, jdiv_nn] at * <;> first | done | omega | assumption) | (intros; first | rfl | (exfalso; omega) | ((repeat' apply And.intro) <;> first | assumption | rfl | omega | trivial)))) -- o5 e5
            · skip
              try simp (disch := omega) only [jst_eq, jst_ne, jst_ni, jI_i, jcmp_lt, jcmp_gt, w32_id, jcpy_out, Sum.elim_inl, Sum.elim_inr, jt2, jt3, jt4, jt5, jt6, jt7, jt8] at c6
              refine OK_jg (by (first | ((unfold plP; (repeat first | rw [if_pos (by omega)] | rw [if_neg (by omega)]); done)) | ((unfold plP; (repeat first | rw [if_pos (by omega)] | rw [if_neg (by omega)]); (try simp only [jand_15]); (try rw [w32_id (by omega) (by omega)]); done)) | ((unfold plP; (repeat first | rw [if_pos (by omega)] | rw [if_neg (by omega)]); (try simp only [jand_15]); (try rw [w32_id (by omega) (by omega)]); omega)) | (first | assumption | omega | ((try dsimp only [jt2, jt3, jt4]); first | omega | (simp (disch := omega) only [jst_eq, jst_ne, jst_ni, jst_o, jI_i, jcpy_out, w32_id, jdiv_nn, jshr_k, jand_255] <;> first | done | omega | assumption)) | (intros; simp (disch := omega) only [jst_eq, jst_ne, jst_ni, jst_o, jI_i, jcpy_out, w32_id, jdiv_nn, *] <;> first | done | omega) | (intros; simp (disch := omega) only [jst_eq, jst_ne, jst_ni, jst_o, jI_i, jcpy_out, w32_id, jdiv_nn] at * <;> first | done | omega | assumption) | (intros; first | rfl | (exfalso; omega) | ((repeat' apply And.intro) <;> first | assumption | rfl | omega | trivial))))) ?_ -- o6
              refine OK_some ?_
              try dsimp only [Sum.elim_inl, Sum.elim_inr, jt2, jt3, jt4, jt5, jt6, jt7, jt8]
              (have q := g1 (by omega); unfold plP; (repeat first | rw [if_pos (by omega)] | rw [if_neg (by omega)]); exact jdiv_nn (by omega) (by omega) (by omega) (by omega)) -- o7 e6
          · skip
            try simp (disch := omega) only [jst_eq, jst_ne, jst_ni, jI_i, jcmp_lt, jcmp_gt, w32_id, jcpy_out, Sum.elim_inl, Sum.elim_inr, jt2, jt3, jt4, jt5, jt6, jt7, jt8] at c5
            refine OK_if (fun c7 => ?_) (fun c7 => ?_)
            · skip
              try simp (disch := omega) only [jst_eq, jst_ne, jst_ni, jI_i, jcmp_lt, jcmp_gt, w32_id, jcpy_out, Sum.elim_inl, Sum.elim_inr, jt2, jt3, jt4, jt5, jt6, jt7, jt8] at c7
              refine OK_if (fun c8 => ?_) (fun c8 => ?_)
              · skip
                try simp (disch := omega) only [jst_eq, jst_ne, jst_ni, jI_i, jcmp_lt, jcmp_gt, w32_id, jcpy_out, Sum.elim_inl, Sum.elim_inr, jt2, jt3, jt4, jt5, jt6, jt7, jt8] at c8
                refine OK_some ?_
                try dsimp only [Sum.elim_inl, Sum.elim_inr, jt2, jt3, jt4, jt5, jt6, jt7, jt8]
                (first | ((unfold plP; (repeat first | rw [if_pos (by omega)] | rw [if_neg (by omega)]); done)) | ((unfold plP; (repeat first | rw [if_pos (by omega)] | rw [if_neg (by omega)]); (try simp only [jand_15]); (try rw [w32_id (by omega) (by omega)]); done)) | ((unfold plP; (repeat first | rw [if_pos (by omega)] | rw [if_neg (by omega)]); (try simp only [jand_15]); (try rw [w32_id (by omega) (by omega)]); omega)) | (first | assumption | omega | ((try dsimp only [jt2, jt3, jt4]); first | omega | (simp (disch := omega) only [jst_eq, jst_ne, jst_ni, jst_o, jI_i, jcpy_out, w32_id, jdiv_nn, jshr_k, jand_255] <;> first | done | omega | assumption)) | (intros; simp (disch := omega) only [jst_eq, jst_ne, jst_ni, jst_o, jI_i, jcpy_out, w32_id, jdiv_nn, *] <;> first | done | omega) | (intros; simp (disch := omega) only [jst_eq, jst_ne, jst_ni, jst_o, jI_i, jcpy_out, w32_id, jdiv_nn] at * <;> first | done | omega | assumption) | (intros; first | rfl | (exfalso; omega) | ((repeat' apply And.intro) <;> first | assumption | rfl | omega | trivial)))) -- o8 e7
              · skip
                try simp (disch := omega) only [jst_eq, jst_ne, jst_ni, jI_i, jcmp_lt, jcmp_gt, w32_id, jcpy_out, Sum.elim_inl, Sum.elim_inr, jt2, jt3, jt4, jt5, jt6, jt7, jt8] at c8
                refine OK_jg (by (first | ((unfold plP; (repeat first | rw [if_pos (by omega)] | rw [if_neg (by omega)]); done)) | ((unfold plP; (repeat first | rw [if_pos (by omega)] | rw [if_neg (by omega)]); (try simp only [jand_15]); (try rw [w32_id (by omega) (by omega)]); done)) | ((unfold plP; (repeat first | rw [if_pos (by omega)] | rw [if_neg (by omega)]); (try simp only [jand_15]); (try rw [w32_id (by omega) (by omega)]); omega)) | (first | assumption | omega | ((try dsimp only [jt2, jt3, jt4]); first | omega | (simp (disch := omega) only [jst_eq, jst_ne, jst_ni, jst_o, jI_i, jcpy_out, w32_id, jdiv_nn, jshr_k, jand_255] <;> first | done | omega | assumption)) | (intros; simp (disch := omega) only [jst_eq, jst_ne, jst_ni, jst_o, jI_i, jcpy_out, w32_id, jdiv_nn, *] <;> first | done | omega) | (intros; simp (disch := omega) only [jst_eq, jst_ne, jst_ni, jst_o, jI_i, jcpy_out, w32_id, jdiv_nn] at * <;> first | done | omega | assumption) | (intros; first | rfl | (exfalso; omega) | ((repeat' apply And.intro) <;> first | assumption | rfl | omega | trivial))))) ?_ -- o9
                refine OK_some ?_
                try dsimp only [Sum.elim_inl, Sum.elim_inr, jt2, jt3, jt4, jt5, jt6, jt7, jt8]
                (have q := g1 (by omega); unfold plP; (repeat first | rw [if_pos (by omega)] | rw [if_neg (by omega)]); exact jrem_nn (by omega) (by omega) (by omega) (by omega)) -- o10 e8
            · skip
              try simp (disch := omega) only [jst_eq, jst_ne, jst_ni, jI_i, jcmp_lt, jcmp_gt, w32_id, jcpy_out, Sum.elim_inl, Sum.elim_inr, jt2, jt3, jt4, jt5, jt6, jt7, jt8] at c7
              refine OK_if (fun c9 => ?_) (fun c9 => ?_)
              · skip
                try simp (disch := omega) only [jst_eq, jst_ne, jst_ni, jI_i, jcmp_lt, jcmp_gt, w32_id, jcpy_out, Sum.elim_inl, Sum.elim_inr, jt2, jt3, jt4, jt5, jt6, jt7, jt8] at c9
                refine OK_some ?_
                try dsimp only [Sum.elim_inl, Sum.elim_inr, jt2, jt3, jt4, jt5, jt6, jt7, jt8]
                (first | ((unfold plP; (repeat first | rw [if_pos (by omega)] | rw [if_neg (by omega)]); done)) | ((unfold plP; (repeat first | rw [if_pos (by omega)] | rw [if_neg (by omega)]); (try simp only [jand_15]); (try rw [w32_id (by omega) (by omega)]); done)) | ((unfold plP; (repeat first | rw [if_pos (by omega)] | rw [if_neg (by omega)]); (try simp only [jand_15]); (try rw [w32_id (by omega) (by omega)]); omega)) | (first | assumption | omega | ((try dsimp only [jt2, jt3, jt4]); first | omega | (simp (disch := omega) only [jst_eq, jst_ne, jst_ni, jst_o, jI_i, jcpy_out, w32_id, jdiv_nn, jshr_k, jand_255] <;> first | done | omega | assumption)) | (intros; simp (disch := omega) only [jst_eq, jst_ne, jst_ni, jst_o, jI_i, jcpy_out, w32_id, jdiv_nn, *] <;> first | done | omega) | (intros; simp (disch := omega) only [jst_eq, jst_ne, jst_ni, jst_o, jI_i, jcpy_out, w32_id, jdiv_nn] at * <;> first | done | omega | assumption) | (intros; first | rfl | (exfalso; omega) | ((repeat' apply And.intro) <;> first | assumption | rfl | omega | trivial)))) -- o11 e9
              · skip
                try simp (disch := omega) only [jst_eq, jst_ne, jst_ni, jI_i, jcmp_lt, jcmp_gt, w32_id, jcpy_out, Sum.elim_inl, Sum.elim_inr, jt2, jt3, jt4, jt5, jt6, jt7, jt8] at c9
                refine OK_if (fun c10 => ?_) (fun c10 => ?_)
                · skip
                  try simp (disch := omega) only [jst_eq, jst_ne, jst_ni, jI_i, jcmp_lt, jcmp_gt, w32_id, jcpy_out, Sum.elim_inl, Sum.elim_inr, jt2, jt3, jt4, jt5, jt6, jt7, jt8] at c10
                  refine OK_some ?_
                  try dsimp only [Sum.elim_inl, Sum.elim_inr, jt2, jt3, jt4, jt5, jt6, jt7, jt8]
                  (first | ((unfold plP; (repeat first | rw [if_pos (by omega)] | rw [if_neg (by omega)]); done)) | ((unfold plP; (repeat first | rw [if_pos (by omega)] | rw [if_neg (by omega)]); (try simp only [jand_15]); (try rw [w32_id (by omega) (by omega)]); done)) | ((unfold plP; (repeat first | rw [if_pos (by omega)] | rw [if_neg (by omega)]); (try simp only [jand_15]); (try rw [w32_id (by omega) (by omega)]); omega)) | (first | assumption | omega | ((try dsimp only [jt2, jt3, jt4]); first | omega | (simp (disch := omega) only [jst_eq, jst_ne, jst_ni, jst_o, jI_i, jcpy_out, w32_id, jdiv_nn, jshr_k, jand_255] <;> first | done | omega | assumption)) | (intros; simp (disch := omega) only [jst_eq, jst_ne, jst_ni, jst_o, jI_i, jcpy_out, w32_id, jdiv_nn, *] <;> first | done | omega) | (intros; simp (disch := omega) only [jst_eq, jst_ne, jst_ni, jst_o, jI_i, jcpy_out, w32_id, jdiv_nn] at * <;> first | done | omega | assumption) | (intros; first | rfl | (exfalso; omega) | ((repeat' apply And.intro) <;> first | assumption | rfl | omega | trivial)))) -- o12 e10
                · skip
                  try simp (disch := omega) only [jst_eq, jst_ne, jst_ni, jI_i, jcmp_lt, jcmp_gt, w32_id, jcpy_out, Sum.elim_inl, Sum.elim_inr, jt2, jt3, jt4, jt5, jt6, jt7, jt8] at c10
                  refine OK_if (fun c11 => ?_) (fun c11 => ?_)
                  · skip
                    try simp (disch := omega) only [jst_eq, jst_ne, jst_ni, jI_i, jcmp_lt, jcmp_gt, w32_id, jcpy_out, Sum.elim_inl, Sum.elim_inr, jt2, jt3, jt4, jt5, jt6, jt7, jt8] at c11
                    unfold gX14_plain_j173
                    refine OK_some ?_
                    try dsimp only [Sum.elim_inl, Sum.elim_inr, jt2, jt3, jt4, jt5, jt6, jt7, jt8]
                    (first | ((unfold plP; (repeat first | rw [if_pos (by omega)] | rw [if_neg (by omega)]); done)) | ((unfold plP; (repeat first | rw [if_pos (by omega)] | rw [if_neg (by omega)]); (try simp only [jand_15]); (try rw [w32_id (by omega) (by omega)]); done)) | ((unfold plP; (repeat first | rw [if_pos (by omega)] | rw [if_neg (by omega)]); (try simp only [jand_15]); (try rw [w32_id (by omega) (by omega)]); omega)) | (first | assumption | omega | ((try dsimp only [jt2, jt3, jt4]); first | omega | (simp (disch := omega) only [jst_eq, jst_ne, jst_ni, jst_o, jI_i, jcpy_out, w32_id, jdiv_nn, jshr_k, jand_255] <;> first | done | omega | assumption)) | (intros; simp (disch := omega) only [jst_eq, jst_ne, jst_ni, jst_o, jI_i, jcpy_out, w32_id, jdiv_nn, *] <;> first | done | omega) | (intros; simp (disch := omega) only [jst_eq, jst_ne, jst_ni, jst_o, jI_i, jcpy_out, w32_id, jdiv_nn] at * <;> first | done | omega | assumption) | (intros; first | rfl | (exfalso; omega) | ((repeat' apply And.intro) <;> first | assumption | rfl | omega | trivial)))) -- o13 e11
                  · skip
                    try simp (disch := omega) only [jst_eq, jst_ne, jst_ni, jI_i, jcmp_lt, jcmp_gt, w32_id, jcpy_out, Sum.elim_inl, Sum.elim_inr, jt2, jt3, jt4, jt5, jt6, jt7, jt8] at c11
                    refine OK_if (fun c12 => ?_) (fun c12 => ?_)
                    · skip
                      try simp (disch := omega) only [jst_eq, jst_ne, jst_ni, jI_i, jcmp_lt, jcmp_gt, w32_id, jcpy_out, Sum.elim_inl, Sum.elim_inr, jt2, jt3, jt4, jt5, jt6, jt7, jt8] at c12
                      unfold gX14_plain_j177
                      refine OK_some ?_
                      try dsimp only [Sum.elim_inl, Sum.elim_inr, jt2, jt3, jt4, jt5, jt6, jt7, jt8]
                      (first | ((unfold plP; (repeat first | rw [if_pos (by omega)] | rw [if_neg (by omega)]); done)) | ((unfold plP; (repeat first | rw [if_pos (by omega)] | rw [if_neg (by omega)]); (try simp only [jand_15]); (try rw [w32_id (by omega) (by omega)]); done)) | ((unfold plP; (repeat first | rw [if_pos (by omega)] | rw [if_neg (by omega)]); (try simp only [jand_15]); (try rw [w32_id (by omega) (by omega)]); omega)) | (first | assumption | omega | ((try dsimp only [jt2, jt3, jt4]); first | omega | (simp (disch := omega) only [jst_eq, jst_ne, jst_ni, jst_o, jI_i, jcpy_out, w32_id, jdiv_nn, jshr_k, jand_255] <;> first | done | omega | assumption)) | (intros; simp (disch := omega) only [jst_eq, jst_ne, jst_ni, jst_o, jI_i, jcpy_out, w32_id, jdiv_nn, *] <;> first | done | omega) | (intros; simp (disch := omega) only [jst_eq, jst_ne, jst_ni, jst_o, jI_i, jcpy_out, w32_id, jdiv_nn] at * <;> first | done | omega | assumption) | (intros; first | rfl | (exfalso; omega) | ((repeat' apply And.intro) <;> first | assumption | rfl | omega | trivial)))) -- o14 e12
                    · skip
                      try simp (disch := omega) only [jst_eq, jst_ne, jst_ni, jI_i, jcmp_lt, jcmp_gt, w32_id, jcpy_out, Sum.elim_inl, Sum.elim_inr, jt2, jt3, jt4, jt5, jt6, jt7, jt8] at c12
                      refine OK_if (fun c13 => ?_) (fun c13 => ?_)
                      · skip
                        try simp (disch := omega) only [jst_eq, jst_ne, jst_ni, jI_i, jcmp_lt, jcmp_gt, w32_id, jcpy_out, Sum.elim_inl, Sum.elim_inr, jt2, jt3, jt4, jt5, jt6, jt7, jt8] at c13
                        refine OK_some ?_
                        try dsimp only [Sum.elim_inl, Sum.elim_inr, jt2, jt3, jt4, jt5, jt6, jt7, jt8]
                        (first | ((unfold plP; (repeat first | rw [if_pos (by omega)] | rw [if_neg (by omega)]); done)) | ((unfold plP; (repeat first | rw [if_pos (by omega)] | rw [if_neg (by omega)]); (try simp only [jand_15]); (try rw [w32_id (by omega) (by omega)]); done)) | ((unfold plP; (repeat first | rw [if_pos (by omega)] | rw [if_neg (by omega)]); (try simp only [jand_15]); (try rw [w32_id (by omega) (by omega)]); omega)) | (first | assumption | omega | ((try dsimp only [jt2, jt3, jt4]); first | omega | (simp (disch := omega) only [jst_eq, jst_ne, jst_ni, jst_o, jI_i, jcpy_out, w32_id, jdiv_nn, jshr_k, jand_255] <;> first | done | omega | assumption)) | (intros; simp (disch := omega) only [jst_eq, jst_ne, jst_ni, jst_o, jI_i, jcpy_out, w32_id, jdiv_nn, *] <;> first | done | omega) | (intros; simp (disch := omega) only [jst_eq, jst_ne, jst_ni, jst_o, jI_i, jcpy_out, w32_id, jdiv_nn] at * <;> first | done | omega | assumption) | (intros; first | rfl | (exfalso; omega) | ((repeat' apply And.intro) <;> first | assumption | rfl | omega | trivial)))) -- o15 e13
                      · skip
                        try simp (disch := omega) only [jst_eq, jst_ne, jst_ni, jI_i, jcmp_lt, jcmp_gt, w32_id, jcpy_out, Sum.elim_inl, Sum.elim_inr, jt2, jt3, jt4, jt5, jt6, jt7, jt8] at c13
                        refine OK_if (fun c14 => ?_) (fun c14 => ?_)
                        · skip
                          try simp (disch := omega) only [jst_eq, jst_ne, jst_ni, jI_i, jcmp_lt, jcmp_gt, w32_id, jcpy_out, Sum.elim_inl, Sum.elim_inr, jt2, jt3, jt4, jt5, jt6, jt7, jt8] at c14
                          refine OK_if (fun c15 => ?_) (fun c15 => ?_)
                          · skip
                            try simp (disch := omega) only [jst_eq, jst_ne, jst_ni, jI_i, jcmp_lt, jcmp_gt, w32_id, jcpy_out, Sum.elim_inl, Sum.elim_inr, jt2, jt3, jt4, jt5, jt6, jt7, jt8] at c15
                            refine OK_some ?_
                            try dsimp only [Sum.elim_inl, Sum.elim_inr, jt2, jt3, jt4, jt5, jt6, jt7, jt8]
                            (first | ((unfold plP; (repeat first | rw [if_pos (by omega)] | rw [if_neg (by omega)]); done)) | ((unfold plP; (repeat first | rw [if_pos (by omega)] | rw [if_neg (by omega)]); (try simp only [jand_15]); (try rw [w32_id (by omega) (by omega)]); done)) | ((unfold plP; (repeat first | rw [if_pos (by omega)] | rw [if_neg (by omega)]); (try simp only [jand_15]); (try rw [w32_id (by omega) (by omega)]); omega)) | (first | assumption | omega | ((try dsimp only [jt2, jt3, jt4]); first | omega | (simp (disch := omega) only [jst_eq, jst_ne, jst_ni, jst_o, jI_i, jcpy_out, w32_id, jdiv_nn, jshr_k, jand_255] <;> first | done | omega | assumption)) | (intros; simp (disch := omega) only [jst_eq, jst_ne, jst_ni, jst_o, jI_i, jcpy_out, w32_id, jdiv_nn, *] <;> first | done | omega) | (intros; simp (disch := omega) only [jst_eq, jst_ne, jst_ni, jst_o, jI_i, jcpy_out, w32_id, jdiv_nn] at * <;> first | done | omega | assumption) | (intros; first | rfl | (exfalso; omega) | ((repeat' apply And.intro) <;> first | assumption | rfl | omega | trivial)))) -- o16 e14
                          · skip
                            try simp (disch := omega) only [jst_eq, jst_ne, jst_ni, jI_i, jcmp_lt, jcmp_gt, w32_id, jcpy_out, Sum.elim_inl, Sum.elim_inr, jt2, jt3, jt4, jt5, jt6, jt7, jt8] at c15
                            refine OK_some ?_
                            try dsimp only [Sum.elim_inl, Sum.elim_inr, jt2, jt3, jt4, jt5, jt6, jt7, jt8]
                            (first | ((unfold plP; (repeat first | rw [if_pos (by omega)] | rw [if_neg (by omega)]); done)) | ((unfold plP; (repeat first | rw [if_pos (by omega)] | rw [if_neg (by omega)]); (try simp only [jand_15]); (try rw [w32_id (by omega) (by omega)]); done)) | ((unfold plP; (repeat first | rw [if_pos (by omega)] | rw [if_neg (by omega)]); (try simp only [jand_15]); (try rw [w32_id (by omega) (by omega)]); omega)) | (first | assumption | omega | ((try dsimp only [jt2, jt3, jt4]); first | omega | (simp (disch := omega) only [jst_eq, jst_ne, jst_ni, jst_o, jI_i, jcpy_out, w32_id, jdiv_nn, jshr_k, jand_255] <;> first | done | omega | assumption)) | (intros; simp (disch := omega) only [jst_eq, jst_ne, jst_ni, jst_o, jI_i, jcpy_out, w32_id, jdiv_nn, *] <;> first | done | omega) | (intros; simp (disch := omega) only [jst_eq, jst_ne, jst_ni, jst_o, jI_i, jcpy_out, w32_id, jdiv_nn] at * <;> first | done | omega | assumption) | (intros; first | rfl | (exfalso; omega) | ((repeat' apply And.intro) <;> first | assumption | rfl | omega | trivial)))) -- o17 e15
                        · skip
                          try simp (disch := omega) only [jst_eq, jst_ne, jst_ni, jI_i, jcmp_lt, jcmp_gt, w32_id, jcpy_out, Sum.elim_inl, Sum.elim_inr, jt2, jt3, jt4, jt5, jt6, jt7, jt8] at c14
                          refine OK_if (fun c16 => ?_) (fun c16 => ?_)
                          · skip
                            try simp (disch := omega) only [jst_eq, jst_ne, jst_ni, jI_i, jcmp_lt, jcmp_gt, w32_id, jcpy_out, Sum.elim_inl, Sum.elim_inr, jt2, jt3, jt4, jt5, jt6, jt7, jt8] at c16
                            unfold gX14_plain_j196
                            refine OK_if (fun c17 => ?_) (fun c17 => ?_)
                            · skip
                              try simp (disch := omega) only [jst_eq, jst_ne, jst_ni, jI_i, jcmp_lt, jcmp_gt, w32_id, jcpy_out, Sum.elim_inl, Sum.elim_inr, jt2, jt3, jt4, jt5, jt6, jt7, jt8] at c17
                              refine OK_some ?_
                              try dsimp only [Sum.elim_inl, Sum.elim_inr, jt2, jt3, jt4, jt5, jt6, jt7, jt8]
                              (first | ((unfold plP; (repeat first | rw [if_pos (by omega)] | rw [if_neg (by omega)]); done)) | ((unfold plP; (repeat first | rw [if_pos (by omega)] | rw [if_neg (by omega)]); (try simp only [jand_15]); (try rw [w32_id (by omega) (by omega)]); done)) | ((unfold plP; (repeat first | rw [if_pos (by omega)] | rw [if_neg (by omega)]); (try simp only [jand_15]); (try rw [w32_id (by omega) (by omega)]); omega)) | (first | assumption | omega | ((try dsimp only [jt2, jt3, jt4]); first | omega | (simp (disch := omega) only [jst_eq, jst_ne, jst_ni, jst_o, jI_i, jcpy_out, w32_id, jdiv_nn, jshr_k, jand_255] <;> first | done | omega | assumption)) | (intros; simp (disch := omega) only [jst_eq, jst_ne, jst_ni, jst_o, jI_i, jcpy_out, w32_id, jdiv_nn, *] <;> first | done | omega) | (intros; simp (disch := omega) only [jst_eq, jst_ne, jst_ni, jst_o, jI_i, jcpy_out, w32_id, jdiv_nn] at * <;> first | done | omega | assumption) | (intros; first | rfl | (exfalso; omega) | ((repeat' apply And.intro) <;> first | assumption | rfl | omega | trivial)))) -- o18 e16
                            · skip
                              try simp (disch := omega) only [jst_eq, jst_ne, jst_ni, jI_i, jcmp_lt, jcmp_gt, w32_id, jcpy_out, Sum.elim_inl, Sum.elim_inr, jt2, jt3, jt4, jt5, jt6, jt7, jt8] at c17
                              refine OK_some ?_
                              try dsimp only [Sum.elim_inl, Sum.elim_inr, jt2, jt3, jt4, jt5, jt6, jt7, jt8]
                              (first | ((unfold plP; (repeat first | rw [if_pos (by omega)] | rw [if_neg (by omega)]); done)) | ((unfold plP; (repeat first | rw [if_pos (by omega)] | rw [if_neg (by omega)]); (try simp only [jand_15]); (try rw [w32_id (by omega) (by omega)]); done)) | ((unfold plP; (repeat first | rw [if_pos (by omega)] | rw [if_neg (by omega)]); (try simp only [jand_15]); (try rw [w32_id (by omega) (by omega)]); omega)) | (first | assumption | omega | ((try dsimp only [jt2, jt3, jt4]); first | omega | (simp (disch := omega) only [jst_eq, jst_ne, jst_ni, jst_o, jI_i, jcpy_out, w32_id, jdiv_nn, jshr_k, jand_255] <;> first | done | omega | assumption)) | (intros; simp (disch := omega) only [jst_eq, jst_ne, jst_ni, jst_o, jI_i, jcpy_out, w32_id, jdiv_nn, *] <;> first | done | omega) | (intros; simp (disch := omega) only [jst_eq, jst_ne, jst_ni, jst_o, jI_i, jcpy_out, w32_id, jdiv_nn] at * <;> first | done | omega | assumption) | (intros; first | rfl | (exfalso; omega) | ((repeat' apply And.intro) <;> first | assumption | rfl | omega | trivial)))) -- o19 e17
                          · skip
                            try simp (disch := omega) only [jst_eq, jst_ne, jst_ni, jI_i, jcmp_lt, jcmp_gt, w32_id, jcpy_out, Sum.elim_inl, Sum.elim_inr, jt2, jt3, jt4, jt5, jt6, jt7, jt8] at c16
                            refine OK_if (fun c18 => ?_) (fun c18 => ?_)
                            · skip
                              try simp (disch := omega) only [jst_eq, jst_ne, jst_ni, jI_i, jcmp_lt, jcmp_gt, w32_id, jcpy_out, Sum.elim_inl, Sum.elim_inr, jt2, jt3, jt4, jt5, jt6, jt7, jt8] at c18
                              refine OK_some ?_
                              try dsimp only [Sum.elim_inl, Sum.elim_inr, jt2, jt3, jt4, jt5, jt6, jt7, jt8]
                              (first | ((unfold plP; (repeat first | rw [if_pos (by omega)] | rw [if_neg (by omega)]); done)) | ((unfold plP; (repeat first | rw [if_pos (by omega)] | rw [if_neg (by omega)]); (try simp only [jand_15]); (try rw [w32_id (by omega) (by omega)]); done)) | ((unfold plP; (repeat first | rw [if_pos (by omega)] | rw [if_neg (by omega)]); (try simp only [jand_15]); (try rw [w32_id (by omega) (by omega)]); omega)) | (first | assumption | omega | ((try dsimp only [jt2, jt3, jt4]); first | omega | (simp (disch := omega) only [jst_eq, jst_ne, jst_ni, jst_o, jI_i, jcpy_out, w32_id, jdiv_nn, jshr_k, jand_255] <;> first | done | omega | assumption)) | (intros; simp (disch := omega) only [jst_eq, jst_ne, jst_ni, jst_o, jI_i, jcpy_out, w32_id, jdiv_nn, *] <;> first | done | omega) | (intros; simp (disch := omega) only [jst_eq, jst_ne, jst_ni, jst_o, jI_i, jcpy_out, w32_id, jdiv_nn] at * <;> first | done | omega | assumption) | (intros; first | rfl | (exfalso; omega) | ((repeat' apply And.intro) <;> first | assumption | rfl | omega | trivial)))) -- o20 e18
                            · skip
                              try simp (disch := omega) only [jst_eq, jst_ne, jst_ni, jI_i, jcmp_lt, jcmp_gt, w32_id, jcpy_out, Sum.elim_inl, Sum.elim_inr, jt2, jt3, jt4, jt5, jt6, jt7, jt8] at c18
                              refine OK_if (fun c19 => ?_) (fun c19 => ?_)
                              · skip
                                try simp (disch := omega) only [jst_eq, jst_ne, jst_ni, jI_i, jcmp_lt, jcmp_gt, w32_id, jcpy_out, Sum.elim_inl, Sum.elim_inr, jt2, jt3, jt4, jt5, jt6, jt7, jt8] at c19
                                unfold gX14_plain_j173
                                refine OK_some ?_
                                try dsimp only [Sum.elim_inl, Sum.elim_inr, jt2, jt3, jt4, jt5, jt6, jt7, jt8]
                                (first | ((unfold plP; (repeat first | rw [if_pos (by omega)] | rw [if_neg (by omega)]); done)) | ((unfold plP; (repeat first | rw [if_pos (by omega)] | rw [if_neg (by omega)]); (try simp only [jand_15]); (try rw [w32_id (by omega) (by omega)]); done)) | ((unfold plP; (repeat first | rw [if_pos (by omega)] | rw [if_neg (by omega)]); (try simp only [jand_15]); (try rw [w32_id (by omega) (by omega)]); omega)) | (first | assumption | omega | ((try dsimp only [jt2, jt3, jt4]); first | omega | (simp (disch := omega) only [jst_eq, jst_ne, jst_ni, jst_o, jI_i, jcpy_out, w32_id, jdiv_nn, jshr_k, jand_255] <;> first | done | omega | assumption)) | (intros; simp (disch := omega) only [jst_eq, jst_ne, jst_ni, jst_o, jI_i, jcpy_out, w32_id, jdiv_nn, *] <;> first | done | omega) | (intros; simp (disch := omega) only [jst_eq, jst_ne, jst_ni, jst_o, jI_i, jcpy_out, w32_id, jdiv_nn] at * <;> first | done | omega | assumption) | (intros; first | rfl | (exfalso; omega) | ((repeat' apply And.intro) <;> first | assumption | rfl | omega | trivial)))) -- o21 e19
                              · skip
                                try simp (disch := omega) only [jst_eq, jst_ne, jst_ni, jI_i, jcmp_lt, jcmp_gt, w32_id, jcpy_out, Sum.elim_inl, Sum.elim_inr, jt2, jt3, jt4, jt5, jt6, jt7, jt8] at c19
                                refine OK_if (fun c20 => ?_) (fun c20 => ?_)
                                · skip
                                  try simp (disch := omega) only [jst_eq, jst_ne, jst_ni, jI_i, jcmp_lt, jcmp_gt, w32_id, jcpy_out, Sum.elim_inl, Sum.elim_inr, jt2, jt3, jt4, jt5, jt6, jt7, jt8] at c20
                                  unfold gX14_plain_j177
                                  refine OK_some ?_
                                  try dsimp only [Sum.elim_inl, Sum.elim_inr, jt2, jt3, jt4, jt5, jt6, jt7, jt8]
                                  (first | ((unfold plP; (repeat first | rw [if_pos (by omega)] | rw [if_neg (by omega)]); done)) | ((unfold plP; (repeat first | rw [if_pos (by omega)] | rw [if_neg (by omega)]); (try simp only [jand_15]); (try rw [w32_id (by omega) (by omega)]); done)) | ((unfold plP; (repeat first | rw [if_pos (by omega)] | rw [if_neg (by omega)]); (try simp only [jand_15]); (try rw [w32_id (by omega) (by omega)]); omega)) | (first | assumption | omega | ((try dsimp only [jt2, jt3, jt4]); first | omega | (simp (disch := omega) only [jst_eq, jst_ne, jst_ni, jst_o, jI_i, jcpy_out, w32_id, jdiv_nn, jshr_k, jand_255] <;> first | done | omega | assumption)) | (intros; simp (disch := omega) only [jst_eq, jst_ne, jst_ni, jst_o, jI_i, jcpy_out, w32_id, jdiv_nn, *] <;> first | done | omega) | (intros; simp (disch := omega) only [jst_eq, jst_ne, jst_ni, jst_o, jI_i, jcpy_out, w32_id, jdiv_nn] at * <;> first | done | omega | assumption) | (intros; first | rfl | (exfalso; omega) | ((repeat' apply And.intro) <;> first | assumption | rfl | omega | trivial)))) -- o22 e20
                                · skip
                                  try simp (disch := omega) only [jst_eq, jst_ne, jst_ni, jI_i, jcmp_lt, jcmp_gt, w32_id, jcpy_out, Sum.elim_inl, Sum.elim_inr, jt2, jt3, jt4, jt5, jt6, jt7, jt8] at c20
                                  refine OK_if (fun c21 => ?_) (fun c21 => ?_)
                                  · skip
                                    try simp (disch := omega) only [jst_eq, jst_ne, jst_ni, jI_i, jcmp_lt, jcmp_gt, w32_id, jcpy_out, Sum.elim_inl, Sum.elim_inr, jt2, jt3, jt4, jt5, jt6, jt7, jt8] at c21
                                    unfold gX14_plain_j296
                                    refine OK_some ?_
                                    try dsimp only [Sum.elim_inl, Sum.elim_inr, jt2, jt3, jt4, jt5, jt6, jt7, jt8]
                                    (first | ((unfold plP; (repeat first | rw [if_pos (by omega)] | rw [if_neg (by omega)]); done)) | ((unfold plP; (repeat first | rw [if_pos (by omega)] | rw [if_neg (by omega)]); (try simp only [jand_15]); (try rw [w32_id (by omega) (by omega)]); done)) | ((unfold plP; (repeat first | rw [if_pos (by omega)] | rw [if_neg (by omega)]); (try simp only [jand_15]); (try rw [w32_id (by omega) (by omega)]); omega)) | (first | assumption | omega | ((try dsimp only [jt2, jt3, jt4]); first | omega | (simp (disch := omega) only [jst_eq, jst_ne, jst_ni, jst_o, jI_i, jcpy_out, w32_id, jdiv_nn, jshr_k, jand_255] <;> first | done | omega | assumption)) | (intros; simp (disch := omega) only [jst_eq, jst_ne, jst_ni, jst_o, jI_i, jcpy_out, w32_id, jdiv_nn, *] <;> first | done | omega) | (intros; simp (disch := omega) only [jst_eq, jst_ne, jst_ni, jst_o, jI_i, jcpy_out, w32_id, jdiv_nn] at * <;> first | done | omega | assumption) | (intros; first | rfl | (exfalso; omega) | ((repeat' apply And.intro) <;> first | assumption | rfl | omega | trivial)))) -- o23 e21
                                  · skip
                                    try simp (disch := omega) only [jst_eq, jst_ne, jst_ni, jI_i, jcmp_lt, jcmp_gt, w32_id, jcpy_out, Sum.elim_inl, Sum.elim_inr, jt2, jt3, jt4, jt5, jt6, jt7, jt8] at c21
                                    refine OK_if (fun c22 => ?_) (fun c22 => ?_)
                                    · skip
                                      try simp (disch := omega) only [jst_eq, jst_ne, jst_ni, jI_i, jcmp_lt, jcmp_gt, w32_id, jcpy_out, Sum.elim_inl, Sum.elim_inr, jt2, jt3, jt4, jt5, jt6, jt7, jt8] at c22
                                      unfold gX14_plain_j296
                                      refine OK_some ?_
                                      try dsimp only [Sum.elim_inl, Sum.elim_inr, jt2, jt3, jt4, jt5, jt6, jt7, jt8]
                                      (first | ((unfold plP; (repeat first | rw [if_pos (by omega)] | rw [if_neg (by omega)]); done)) | ((unfold plP; (repeat first | rw [if_pos (by omega)] | rw [if_neg (by omega)]); (try simp only [jand_15]); (try rw [w32_id (by omega) (by omega)]); done)) | ((unfold plP; (repeat first | rw [if_pos (by omega)] | rw [if_neg (by omega)]); (try simp only [jand_15]); (try rw [w32_id (by omega) (by omega)]); omega)) | (first | assumption | omega | ((try dsimp only [jt2, jt3, jt4]); first | omega | (simp (disch := omega) only [jst_eq, jst_ne, jst_ni, jst_o, jI_i, jcpy_out, w32_id, jdiv_nn, jshr_k, jand_255] <;> first | done | omega | assumption)) | (intros; simp (disch := omega) only [jst_eq, jst_ne, jst_ni, jst_o, jI_i, jcpy_out, w32_id, jdiv_nn, *] <;> first | done | omega) | (intros; simp (disch := omega) only [jst_eq, jst_ne, jst_ni, jst_o, jI_i, jcpy_out, w32_id, jdiv_nn] at * <;> first | done | omega | assumption) | (intros; first | rfl | (exfalso; omega) | ((repeat' apply And.intro) <;> first | assumption | rfl | omega | trivial)))) -- o24 e22
                                    · skip
                                      try simp (disch := omega) only [jst_eq, jst_ne, jst_ni, jI_i, jcmp_lt, jcmp_gt, w32_id, jcpy_out, Sum.elim_inl, Sum.elim_inr, jt2, jt3, jt4, jt5, jt6, jt7, jt8] at c22
                                      refine OK_if (fun c23 => ?_) (fun c23 => ?_)
                                      · skip
                                        try simp (disch := omega) only [jst_eq, jst_ne, jst_ni, jI_i, jcmp_lt, jcmp_gt, w32_id, jcpy_out, Sum.elim_inl, Sum.elim_inr, jt2, jt3, jt4, jt5, jt6, jt7, jt8] at c23
                                        refine OK_jb (vX14_length _ (by (first | ((unfold plP; (repeat first | rw [if_pos (by omega)] | rw [if_neg (by omega)]); done)) | ((unfold plP; (repeat first | rw [if_pos (by omega)] | rw [if_neg (by omega)]); (try simp only [jand_15]); (try rw [w32_id (by omega) (by omega)]); done)) | ((unfold plP; (repeat first | rw [if_pos (by omega)] | rw [if_neg (by omega)]); (try simp only [jand_15]); (try rw [w32_id (by omega) (by omega)]); omega)) | (first | assumption | omega | ((try dsimp only [jt2, jt3, jt4]); first | omega | (simp (disch := omega) only [jst_eq, jst_ne, jst_ni, jst_o, jI_i, jcpy_out, w32_id, jdiv_nn, jshr_k, jand_255] <;> first | done | omega | assumption)) | (intros; simp (disch := omega) only [jst_eq, jst_ne, jst_ni, jst_o, jI_i, jcpy_out, w32_id, jdiv_nn, *] <;> first | done | omega) | (intros; simp (disch := omega) only [jst_eq, jst_ne, jst_ni, jst_o, jI_i, jcpy_out, w32_id, jdiv_nn] at * <;> first | done | omega | assumption) | (intros; first | rfl | (exfalso; omega) | ((repeat' apply And.intro) <;> first | assumption | rfl | omega | trivial)))))) (fun v24 r1 => ?_)
                                        try dsimp only [Sum.elim_inl, Sum.elim_inr, jt2, jt3, jt4, jt5, jt6, jt7, jt8] at r1
                                        have v1 := r1
                                        clear r1
                                        try simp (disch := omega) only [jst_eq, jst_ne, jst_ni, jI_i, jcmp_lt, jcmp_gt, w32_id, jcpy_out, Sum.elim_inl, Sum.elim_inr, jt2, jt3, jt4, jt5, jt6, jt7, jt8] at v1
                                        refine OK_jb (vX14_length _ (by (first | ((unfold plP; (repeat first | rw [if_pos (by omega)] | rw [if_neg (by omega)]); done)) | ((unfold plP; (repeat first | rw [if_pos (by omega)] | rw [if_neg (by omega)]); (try simp only [jand_15]); (try rw [w32_id (by omega) (by omega)]); done)) | ((unfold plP; (repeat first | rw [if_pos (by omega)] | rw [if_neg (by omega)]); (try simp only [jand_15]); (try rw [w32_id (by omega) (by omega)]); omega)) | (first | assumption | omega | ((try dsimp only [jt2, jt3, jt4]); first | omega | (simp (disch := omega) only [jst_eq, jst_ne, jst_ni, jst_o, jI_i, jcpy_out, w32_id, jdiv_nn, jshr_k, jand_255] <;> first | done | omega | assumption)) | (intros; simp (disch := omega) only [jst_eq, jst_ne, jst_ni, jst_o, jI_i, jcpy_out, w32_id, jdiv_nn, *] <;> first | done | omega) | (intros; simp (disch := omega) only [jst_eq, jst_ne, jst_ni, jst_o, jI_i, jcpy_out, w32_id, jdiv_nn] at * <;> first | done | omega | assumption) | (intros; first | rfl | (exfalso; omega) | ((repeat' apply And.intro) <;> first | assumption | rfl | omega | trivial)))))) (fun v26 r2 => ?_)
                                        try dsimp only [Sum.elim_inl, Sum.elim_inr, jt2, jt3, jt4, jt5, jt6, jt7, jt8] at r2
                                        have v2 := r2
                                        clear r2
                                        try simp (disch := omega) only [jst_eq, jst_ne, jst_ni, jI_i, jcmp_lt, jcmp_gt, w32_id, jcpy_out, Sum.elim_inl, Sum.elim_inr, jt2, jt3, jt4, jt5, jt6, jt7, jt8] at v2
                                        have L1 := wlen6 (g3 (Or.inl (by omega))).2
                                        have L2 := wlen6 (g2 (by omega)).2
                                        have L3 : v24 = wlen 7 a1 := by assumption
                                        have L4 : v26 = wlen 7 a2 := by assumption
                                        have LW : w32 (v24 + v26) = wlen 7 a1 + wlen 7 a2 := by { rw [L3, L4]; exact w32_id (by omega) (by omega) }
                                        refine OK_if (fun c24 => ?_) (fun c24 => ?_)
                                        · skip
                                          try simp (disch := omega) only [jst_eq, jst_ne, jst_ni, jI_i, jcmp_lt, jcmp_gt, w32_id, jcpy_out, Sum.elim_inl, Sum.elim_inr, jt2, jt3, jt4, jt5, jt6, jt7, jt8] at c24
                                          refine OK_jb (vX14_length _ (by (first | ((unfold plP; (repeat first | rw [if_pos (by omega)] | rw [if_neg (by omega)]); done)) | ((unfold plP; (repeat first | rw [if_pos (by omega)] | rw [if_neg (by omega)]); (try simp only [jand_15]); (try rw [w32_id (by omega) (by omega)]); done)) | ((unfold plP; (repeat first | rw [if_pos (by omega)] | rw [if_neg (by omega)]); (try simp only [jand_15]); (try rw [w32_id (by omega) (by omega)]); omega)) | (first | assumption | omega | ((try dsimp only [jt2, jt3, jt4]); first | omega | (simp (disch := omega) only [jst_eq, jst_ne, jst_ni, jst_o, jI_i, jcpy_out, w32_id, jdiv_nn, jshr_k, jand_255] <;> first | done | omega | assumption)) | (intros; simp (disch := omega) only [jst_eq, jst_ne, jst_ni, jst_o, jI_i, jcpy_out, w32_id, jdiv_nn, *] <;> first | done | omega) | (intros; simp (disch := omega) only [jst_eq, jst_ne, jst_ni, jst_o, jI_i, jcpy_out, w32_id, jdiv_nn] at * <;> first | done | omega | assumption) | (intros; first | rfl | (exfalso; omega) | ((repeat' apply And.intro) <;> first | assumption | rfl | omega | trivial)))))) (fun v29 r3 => ?_)
                                          try dsimp only [Sum.elim_inl, Sum.elim_inr, jt2, jt3, jt4, jt5, jt6, jt7, jt8] at r3
                                          have v3 := r3
                                          clear r3
                                          try simp (disch := omega) only [jst_eq, jst_ne, jst_ni, jI_i, jcmp_lt, jcmp_gt, w32_id, jcpy_out, Sum.elim_inl, Sum.elim_inr, jt2, jt3, jt4, jt5, jt6, jt7, jt8] at v3
                                          refine OK_jb (vX14_power _ (by (first | ((unfold plP; (repeat first | rw [if_pos (by omega)] | rw [if_neg (by omega)]); done)) | ((unfold plP; (repeat first | rw [if_pos (by omega)] | rw [if_neg (by omega)]); (try simp only [jand_15]); (try rw [w32_id (by omega) (by omega)]); done)) | ((unfold plP; (repeat first | rw [if_pos (by omega)] | rw [if_neg (by omega)]); (try simp only [jand_15]); (try rw [w32_id (by omega) (by omega)]); omega)) | (first | assumption | omega | ((try dsimp only [jt2, jt3, jt4]); first | omega | (simp (disch := omega) only [jst_eq, jst_ne, jst_ni, jst_o, jI_i, jcpy_out, w32_id, jdiv_nn, jshr_k, jand_255] <;> first | done | omega | assumption)) | (intros; simp (disch := omega) only [jst_eq, jst_ne, jst_ni, jst_o, jI_i, jcpy_out, w32_id, jdiv_nn, *] <;> first | done | omega) | (intros; simp (disch := omega) only [jst_eq, jst_ne, jst_ni, jst_o, jI_i, jcpy_out, w32_id, jdiv_nn] at * <;> first | done | omega | assumption) | (intros; first | rfl | (exfalso; omega) | ((repeat' apply And.intro) <;> first | assumption | rfl | omega | trivial)))))) (fun v31 r4 => ?_)
                                          try dsimp only [Sum.elim_inl, Sum.elim_inr, jt2, jt3, jt4, jt5, jt6, jt7, jt8] at r4
                                          have v4 := r4
                                          clear r4
                                          try simp (disch := omega) only [jst_eq, jst_ne, jst_ni, jI_i, jcmp_lt, jcmp_gt, w32_id, jcpy_out, Sum.elim_inl, Sum.elim_inr, jt2, jt3, jt4, jt5, jt6, jt7, jt8] at v4
                                          refine OK_some ?_
                                          try dsimp only [Sum.elim_inl, Sum.elim_inr, jt2, jt3, jt4, jt5, jt6, jt7, jt8]
                                          (have q1 := g2 (by omega); have q2 := g3 (Or.inl (by omega)); have le : wlen 7 a1 + wlen 7 a2 ≤ 6 := (by omega); have J := join_r q1.1 q1.2 q2.1 q2.2 le; unfold plP; (repeat first | rw [if_pos (by omega)] | rw [if_neg (by omega)]); have e : v31 = pow27 (wlen 7 a2).toNat := (by rw [← v3]; assumption); rw [e, w32_id (x := a1 * _) (by omega) (by omega), w32_id (by omega) (by omega)]) -- o29 e23
                                        · skip
                                          try simp (disch := omega) only [jst_eq, jst_ne, jst_ni, jI_i, jcmp_lt, jcmp_gt, w32_id, jcpy_out, Sum.elim_inl, Sum.elim_inr, jt2, jt3, jt4, jt5, jt6, jt7, jt8] at c24
                                          refine OK_some ?_
                                          try dsimp only [Sum.elim_inl, Sum.elim_inr, jt2, jt3, jt4, jt5, jt6, jt7, jt8]
                                          (unfold plP; (repeat first | rw [if_pos (by omega)] | rw [if_neg (by omega)])) -- o30 e24
                                      · skip
                                        try simp (disch := omega) only [jst_eq, jst_ne, jst_ni, jI_i, jcmp_lt, jcmp_gt, w32_id, jcpy_out, Sum.elim_inl, Sum.elim_inr, jt2, jt3, jt4, jt5, jt6, jt7, jt8] at c23
                                        refine OK_if (fun c25 => ?_) (fun c25 => ?_)
                                        · skip
                                          try simp (disch := omega) only [jst_eq, jst_ne, jst_ni, jI_i, jcmp_lt, jcmp_gt, w32_id, jcpy_out, Sum.elim_inl, Sum.elim_inr, jt2, jt3, jt4, jt5, jt6, jt7, jt8] at c25
                                          refine OK_jb (vX14_length _ (by (first | ((unfold plP; (repeat first | rw [if_pos (by omega)] | rw [if_neg (by omega)]); done)) | ((unfold plP; (repeat first | rw [if_pos (by omega)] | rw [if_neg (by omega)]); (try simp only [jand_15]); (try rw [w32_id (by omega) (by omega)]); done)) | ((unfold plP; (repeat first | rw [if_pos (by omega)] | rw [if_neg (by omega)]); (try simp only [jand_15]); (try rw [w32_id (by omega) (by omega)]); omega)) | (first | assumption | omega | ((try dsimp only [jt2, jt3, jt4]); first | omega | (simp (disch := omega) only [jst_eq, jst_ne, jst_ni, jst_o, jI_i, jcpy_out, w32_id, jdiv_nn, jshr_k, jand_255] <;> first | done | omega | assumption)) | (intros; simp (disch := omega) only [jst_eq, jst_ne, jst_ni, jst_o, jI_i, jcpy_out, w32_id, jdiv_nn, *] <;> first | done | omega) | (intros; simp (disch := omega) only [jst_eq, jst_ne, jst_ni, jst_o, jI_i, jcpy_out, w32_id, jdiv_nn] at * <;> first | done | omega | assumption) | (intros; first | rfl | (exfalso; omega) | ((repeat' apply And.intro) <;> first | assumption | rfl | omega | trivial)))))) (fun v34 r5 => ?_)
                                          try dsimp only [Sum.elim_inl, Sum.elim_inr, jt2, jt3, jt4, jt5, jt6, jt7, jt8] at r5
                                          have v5 := r5
                                          clear r5
                                          try simp (disch := omega) only [jst_eq, jst_ne, jst_ni, jI_i, jcmp_lt, jcmp_gt, w32_id, jcpy_out, Sum.elim_inl, Sum.elim_inr, jt2, jt3, jt4, jt5, jt6, jt7, jt8] at v5
                                          refine OK_some ?_
                                          try dsimp only [Sum.elim_inl, Sum.elim_inr, jt2, jt3, jt4, jt5, jt6, jt7, jt8]
                                          (first | ((unfold plP; (repeat first | rw [if_pos (by omega)] | rw [if_neg (by omega)]); done)) | ((unfold plP; (repeat first | rw [if_pos (by omega)] | rw [if_neg (by omega)]); (try simp only [jand_15]); (try rw [w32_id (by omega) (by omega)]); done)) | ((unfold plP; (repeat first | rw [if_pos (by omega)] | rw [if_neg (by omega)]); (try simp only [jand_15]); (try rw [w32_id (by omega) (by omega)]); omega)) | (first | assumption | omega | ((try dsimp only [jt2, jt3, jt4]); first | omega | (simp (disch := omega) only [jst_eq, jst_ne, jst_ni, jst_o, jI_i, jcpy_out, w32_id, jdiv_nn, jshr_k, jand_255] <;> first | done | omega | assumption)) | (intros; simp (disch := omega) only [jst_eq, jst_ne, jst_ni, jst_o, jI_i, jcpy_out, w32_id, jdiv_nn, *] <;> first | done | omega) | (intros; simp (disch := omega) only [jst_eq, jst_ne, jst_ni, jst_o, jI_i, jcpy_out, w32_id, jdiv_nn] at * <;> first | done | omega | assumption) | (intros; first | rfl | (exfalso; omega) | ((repeat' apply And.intro) <;> first | assumption | rfl | omega | trivial)))) -- o32 e25
                                        · skip
                                          try simp (disch := omega) only [jst_eq, jst_ne, jst_ni, jI_i, jcmp_lt, jcmp_gt, w32_id, jcpy_out, Sum.elim_inl, Sum.elim_inr, jt2, jt3, jt4, jt5, jt6, jt7, jt8] at c25
                                          refine OK_if (fun c26 => ?_) (fun c26 => ?_)
                                          · skip
                                            try simp (disch := omega) only [jst_eq, jst_ne, jst_ni, jI_i, jcmp_lt, jcmp_gt, w32_id, jcpy_out, Sum.elim_inl, Sum.elim_inr, jt2, jt3, jt4, jt5, jt6, jt7, jt8] at c26
                                            refine OK_jb (vX14_taken _ _ (by (first | ((unfold plP; (repeat first | rw [if_pos (by omega)] | rw [if_neg (by omega)]); done)) | ((unfold plP; (repeat first | rw [if_pos (by omega)] | rw [if_neg (by omega)]); (try simp only [jand_15]); (try rw [w32_id (by omega) (by omega)]); done)) | ((unfold plP; (repeat first | rw [if_pos (by omega)] | rw [if_neg (by omega)]); (try simp only [jand_15]); (try rw [w32_id (by omega) (by omega)]); omega)) | (first | assumption | omega | ((try dsimp only [jt2, jt3, jt4]); first | omega | (simp (disch := omega) only [jst_eq, jst_ne, jst_ni, jst_o, jI_i, jcpy_out, w32_id, jdiv_nn, jshr_k, jand_255] <;> first | done | omega | assumption)) | (intros; simp (disch := omega) only [jst_eq, jst_ne, jst_ni, jst_o, jI_i, jcpy_out, w32_id, jdiv_nn, *] <;> first | done | omega) | (intros; simp (disch := omega) only [jst_eq, jst_ne, jst_ni, jst_o, jI_i, jcpy_out, w32_id, jdiv_nn] at * <;> first | done | omega | assumption) | (intros; first | rfl | (exfalso; omega) | ((repeat' apply And.intro) <;> first | assumption | rfl | omega | trivial)))))) (fun v37 r6 => ?_)
                                            try dsimp only [Sum.elim_inl, Sum.elim_inr, jt2, jt3, jt4, jt5, jt6, jt7, jt8] at r6
                                            have v6 := r6
                                            clear r6
                                            try simp (disch := omega) only [jst_eq, jst_ne, jst_ni, jI_i, jcmp_lt, jcmp_gt, w32_id, jcpy_out, Sum.elim_inl, Sum.elim_inr, jt2, jt3, jt4, jt5, jt6, jt7, jt8] at v6
                                            refine OK_some ?_
                                            try dsimp only [Sum.elim_inl, Sum.elim_inr, jt2, jt3, jt4, jt5, jt6, jt7, jt8]
                                            (first | ((unfold plP; (repeat first | rw [if_pos (by omega)] | rw [if_neg (by omega)]); done)) | ((unfold plP; (repeat first | rw [if_pos (by omega)] | rw [if_neg (by omega)]); (try simp only [jand_15]); (try rw [w32_id (by omega) (by omega)]); done)) | ((unfold plP; (repeat first | rw [if_pos (by omega)] | rw [if_neg (by omega)]); (try simp only [jand_15]); (try rw [w32_id (by omega) (by omega)]); omega)) | (first | assumption | omega | ((try dsimp only [jt2, jt3, jt4]); first | omega | (simp (disch := omega) only [jst_eq, jst_ne, jst_ni, jst_o, jI_i, jcpy_out, w32_id, jdiv_nn, jshr_k, jand_255] <;> first | done | omega | assumption)) | (intros; simp (disch := omega) only [jst_eq, jst_ne, jst_ni, jst_o, jI_i, jcpy_out, w32_id, jdiv_nn, *] <;> first | done | omega) | (intros; simp (disch := omega) only [jst_eq, jst_ne, jst_ni, jst_o, jI_i, jcpy_out, w32_id, jdiv_nn] at * <;> first | done | omega | assumption) | (intros; first | rfl | (exfalso; omega) | ((repeat' apply And.intro) <;> first | assumption | rfl | omega | trivial)))) -- o34 e26
                                          · skip
                                            try simp (disch := omega) only [jst_eq, jst_ne, jst_ni, jI_i, jcmp_lt, jcmp_gt, w32_id, jcpy_out, Sum.elim_inl, Sum.elim_inr, jt2, jt3, jt4, jt5, jt6, jt7, jt8] at c26
                                            refine OK_if (fun c27 => ?_) (fun c27 => ?_)
                                            · skip
                                              try simp (disch := omega) only [jst_eq, jst_ne, jst_ni, jI_i, jcmp_lt, jcmp_gt, w32_id, jcpy_out, Sum.elim_inl, Sum.elim_inr, jt2, jt3, jt4, jt5, jt6, jt7, jt8] at c27
                                              refine OK_jb (vX14_dropped _ _ (by (first | ((unfold plP; (repeat first | rw [if_pos (by omega)] | rw [if_neg (by omega)]); done)) | ((unfold plP; (repeat first | rw [if_pos (by omega)] | rw [if_neg (by omega)]); (try simp only [jand_15]); (try rw [w32_id (by omega) (by omega)]); done)) | ((unfold plP; (repeat first | rw [if_pos (by omega)] | rw [if_neg (by omega)]); (try simp only [jand_15]); (try rw [w32_id (by omega) (by omega)]); omega)) | (first | assumption | omega | ((try dsimp only [jt2, jt3, jt4]); first | omega | (simp (disch := omega) only [jst_eq, jst_ne, jst_ni, jst_o, jI_i, jcpy_out, w32_id, jdiv_nn, jshr_k, jand_255] <;> first | done | omega | assumption)) | (intros; simp (disch := omega) only [jst_eq, jst_ne, jst_ni, jst_o, jI_i, jcpy_out, w32_id, jdiv_nn, *] <;> first | done | omega) | (intros; simp (disch := omega) only [jst_eq, jst_ne, jst_ni, jst_o, jI_i, jcpy_out, w32_id, jdiv_nn] at * <;> first | done | omega | assumption) | (intros; first | rfl | (exfalso; omega) | ((repeat' apply And.intro) <;> first | assumption | rfl | omega | trivial)))))) (fun v40 r7 => ?_)
                                              try dsimp only [Sum.elim_inl, Sum.elim_inr, jt2, jt3, jt4, jt5, jt6, jt7, jt8] at r7
                                              have v7 := r7
                                              clear r7
                                              try simp (disch := omega) only [jst_eq, jst_ne, jst_ni, jI_i, jcmp_lt, jcmp_gt, w32_id, jcpy_out, Sum.elim_inl, Sum.elim_inr, jt2, jt3, jt4, jt5, jt6, jt7, jt8] at v7
                                              refine OK_some ?_
                                              try dsimp only [Sum.elim_inl, Sum.elim_inr, jt2, jt3, jt4, jt5, jt6, jt7, jt8]
                                              (first | ((unfold plP; (repeat first | rw [if_pos (by omega)] | rw [if_neg (by omega)]); done)) | ((unfold plP; (repeat first | rw [if_pos (by omega)] | rw [if_neg (by omega)]); (try simp only [jand_15]); (try rw [w32_id (by omega) (by omega)]); done)) | ((unfold plP; (repeat first | rw [if_pos (by omega)] | rw [if_neg (by omega)]); (try simp only [jand_15]); (try rw [w32_id (by omega) (by omega)]); omega)) | (first | assumption | omega | ((try dsimp only [jt2, jt3, jt4]); first | omega | (simp (disch := omega) only [jst_eq, jst_ne, jst_ni, jst_o, jI_i, jcpy_out, w32_id, jdiv_nn, jshr_k, jand_255] <;> first | done | omega | assumption)) | (intros; simp (disch := omega) only [jst_eq, jst_ne, jst_ni, jst_o, jI_i, jcpy_out, w32_id, jdiv_nn, *] <;> first | done | omega) | (intros; simp (disch := omega) only [jst_eq, jst_ne, jst_ni, jst_o, jI_i, jcpy_out, w32_id, jdiv_nn] at * <;> first | done | omega | assumption) | (intros; first | rfl | (exfalso; omega) | ((repeat' apply And.intro) <;> first | assumption | rfl | omega | trivial)))) -- o36 e27
                                            · skip
                                              try simp (disch := omega) only [jst_eq, jst_ne, jst_ni, jI_i, jcmp_lt, jcmp_gt, w32_id, jcpy_out, Sum.elim_inl, Sum.elim_inr, jt2, jt3, jt4, jt5, jt6, jt7, jt8] at c27
                                              refine OK_if (fun c28 => ?_) (fun c28 => ?_)
                                              · skip
                                                try simp (disch := omega) only [jst_eq, jst_ne, jst_ni, jI_i, jcmp_lt, jcmp_gt, w32_id, jcpy_out, Sum.elim_inl, Sum.elim_inr, jt2, jt3, jt4, jt5, jt6, jt7, jt8] at c28
                                                refine OK_jb (vX14_turned _ (by (first | ((unfold plP; (repeat first | rw [if_pos (by omega)] | rw [if_neg (by omega)]); done)) | ((unfold plP; (repeat first | rw [if_pos (by omega)] | rw [if_neg (by omega)]); (try simp only [jand_15]); (try rw [w32_id (by omega) (by omega)]); done)) | ((unfold plP; (repeat first | rw [if_pos (by omega)] | rw [if_neg (by omega)]); (try simp only [jand_15]); (try rw [w32_id (by omega) (by omega)]); omega)) | (first | assumption | omega | ((try dsimp only [jt2, jt3, jt4]); first | omega | (simp (disch := omega) only [jst_eq, jst_ne, jst_ni, jst_o, jI_i, jcpy_out, w32_id, jdiv_nn, jshr_k, jand_255] <;> first | done | omega | assumption)) | (intros; simp (disch := omega) only [jst_eq, jst_ne, jst_ni, jst_o, jI_i, jcpy_out, w32_id, jdiv_nn, *] <;> first | done | omega) | (intros; simp (disch := omega) only [jst_eq, jst_ne, jst_ni, jst_o, jI_i, jcpy_out, w32_id, jdiv_nn] at * <;> first | done | omega | assumption) | (intros; first | rfl | (exfalso; omega) | ((repeat' apply And.intro) <;> first | assumption | rfl | omega | trivial)))))) (fun v43 r8 => ?_)
                                                try dsimp only [Sum.elim_inl, Sum.elim_inr, jt2, jt3, jt4, jt5, jt6, jt7, jt8] at r8
                                                have v8 := r8
                                                clear r8
                                                try simp (disch := omega) only [jst_eq, jst_ne, jst_ni, jI_i, jcmp_lt, jcmp_gt, w32_id, jcpy_out, Sum.elim_inl, Sum.elim_inr, jt2, jt3, jt4, jt5, jt6, jt7, jt8] at v8
                                                refine OK_some ?_
                                                try dsimp only [Sum.elim_inl, Sum.elim_inr, jt2, jt3, jt4, jt5, jt6, jt7, jt8]
                                                (first | ((unfold plP; (repeat first | rw [if_pos (by omega)] | rw [if_neg (by omega)]); done)) | ((unfold plP; (repeat first | rw [if_pos (by omega)] | rw [if_neg (by omega)]); (try simp only [jand_15]); (try rw [w32_id (by omega) (by omega)]); done)) | ((unfold plP; (repeat first | rw [if_pos (by omega)] | rw [if_neg (by omega)]); (try simp only [jand_15]); (try rw [w32_id (by omega) (by omega)]); omega)) | (first | assumption | omega | ((try dsimp only [jt2, jt3, jt4]); first | omega | (simp (disch := omega) only [jst_eq, jst_ne, jst_ni, jst_o, jI_i, jcpy_out, w32_id, jdiv_nn, jshr_k, jand_255] <;> first | done | omega | assumption)) | (intros; simp (disch := omega) only [jst_eq, jst_ne, jst_ni, jst_o, jI_i, jcpy_out, w32_id, jdiv_nn, *] <;> first | done | omega) | (intros; simp (disch := omega) only [jst_eq, jst_ne, jst_ni, jst_o, jI_i, jcpy_out, w32_id, jdiv_nn] at * <;> first | done | omega | assumption) | (intros; first | rfl | (exfalso; omega) | ((repeat' apply And.intro) <;> first | assumption | rfl | omega | trivial)))) -- o38 e28
                                              · skip
                                                try simp (disch := omega) only [jst_eq, jst_ne, jst_ni, jI_i, jcmp_lt, jcmp_gt, w32_id, jcpy_out, Sum.elim_inl, Sum.elim_inr, jt2, jt3, jt4, jt5, jt6, jt7, jt8] at c28
                                                refine OK_if (fun c29 => ?_) (fun c29 => ?_)
                                                · skip
                                                  try simp (disch := omega) only [jst_eq, jst_ne, jst_ni, jI_i, jcmp_lt, jcmp_gt, w32_id, jcpy_out, Sum.elim_inl, Sum.elim_inr, jt2, jt3, jt4, jt5, jt6, jt7, jt8] at c29
                                                  refine OK_if (fun c30 => ?_) (fun c30 => ?_)
                                                  · skip
                                                    try simp (disch := omega) only [jst_eq, jst_ne, jst_ni, jI_i, jcmp_lt, jcmp_gt, w32_id, jcpy_out, Sum.elim_inl, Sum.elim_inr, jt2, jt3, jt4, jt5, jt6, jt7, jt8] at c30
                                                    refine OK_some ?_
                                                    try dsimp only [Sum.elim_inl, Sum.elim_inr, jt2, jt3, jt4, jt5, jt6, jt7, jt8]
                                                    (first | ((unfold plP; (repeat first | rw [if_pos (by omega)] | rw [if_neg (by omega)]); done)) | ((unfold plP; (repeat first | rw [if_pos (by omega)] | rw [if_neg (by omega)]); (try simp only [jand_15]); (try rw [w32_id (by omega) (by omega)]); done)) | ((unfold plP; (repeat first | rw [if_pos (by omega)] | rw [if_neg (by omega)]); (try simp only [jand_15]); (try rw [w32_id (by omega) (by omega)]); omega)) | (first | assumption | omega | ((try dsimp only [jt2, jt3, jt4]); first | omega | (simp (disch := omega) only [jst_eq, jst_ne, jst_ni, jst_o, jI_i, jcpy_out, w32_id, jdiv_nn, jshr_k, jand_255] <;> first | done | omega | assumption)) | (intros; simp (disch := omega) only [jst_eq, jst_ne, jst_ni, jst_o, jI_i, jcpy_out, w32_id, jdiv_nn, *] <;> first | done | omega) | (intros; simp (disch := omega) only [jst_eq, jst_ne, jst_ni, jst_o, jI_i, jcpy_out, w32_id, jdiv_nn] at * <;> first | done | omega | assumption) | (intros; first | rfl | (exfalso; omega) | ((repeat' apply And.intro) <;> first | assumption | rfl | omega | trivial)))) -- o39 e29
                                                  · skip
                                                    try simp (disch := omega) only [jst_eq, jst_ne, jst_ni, jI_i, jcmp_lt, jcmp_gt, w32_id, jcpy_out, Sum.elim_inl, Sum.elim_inr, jt2, jt3, jt4, jt5, jt6, jt7, jt8] at c30
                                                    refine OK_jb (vX14_taken _ _ (by (first | ((unfold plP; (repeat first | rw [if_pos (by omega)] | rw [if_neg (by omega)]); done)) | ((unfold plP; (repeat first | rw [if_pos (by omega)] | rw [if_neg (by omega)]); (try simp only [jand_15]); (try rw [w32_id (by omega) (by omega)]); done)) | ((unfold plP; (repeat first | rw [if_pos (by omega)] | rw [if_neg (by omega)]); (try simp only [jand_15]); (try rw [w32_id (by omega) (by omega)]); omega)) | (first | assumption | omega | ((try dsimp only [jt2, jt3, jt4]); first | omega | (simp (disch := omega) only [jst_eq, jst_ne, jst_ni, jst_o, jI_i, jcpy_out, w32_id, jdiv_nn, jshr_k, jand_255] <;> first | done | omega | assumption)) | (intros; simp (disch := omega) only [jst_eq, jst_ne, jst_ni, jst_o, jI_i, jcpy_out, w32_id, jdiv_nn, *] <;> first | done | omega) | (intros; simp (disch := omega) only [jst_eq, jst_ne, jst_ni, jst_o, jI_i, jcpy_out, w32_id, jdiv_nn] at * <;> first | done | omega | assumption) | (intros; first | rfl | (exfalso; omega) | ((repeat' apply And.intro) <;> first | assumption | rfl | omega | trivial)))))) (fun v47 r9 => ?_)
                                                    try dsimp only [Sum.elim_inl, Sum.elim_inr, jt2, jt3, jt4, jt5, jt6, jt7, jt8] at r9
                                                    have v9 := r9
                                                    clear r9
                                                    try simp (disch := omega) only [jst_eq, jst_ne, jst_ni, jI_i, jcmp_lt, jcmp_gt, w32_id, jcpy_out, Sum.elim_inl, Sum.elim_inr, jt2, jt3, jt4, jt5, jt6, jt7, jt8] at v9
                                                    refine OK_some ?_
                                                    try dsimp only [Sum.elim_inl, Sum.elim_inr, jt2, jt3, jt4, jt5, jt6, jt7, jt8]
                                                    (first | ((unfold plP; (repeat first | rw [if_pos (by omega)] | rw [if_neg (by omega)]); done)) | ((unfold plP; (repeat first | rw [if_pos (by omega)] | rw [if_neg (by omega)]); (try simp only [jand_15]); (try rw [w32_id (by omega) (by omega)]); done)) | ((unfold plP; (repeat first | rw [if_pos (by omega)] | rw [if_neg (by omega)]); (try simp only [jand_15]); (try rw [w32_id (by omega) (by omega)]); omega)) | (first | assumption | omega | ((try dsimp only [jt2, jt3, jt4]); first | omega | (simp (disch := omega) only [jst_eq, jst_ne, jst_ni, jst_o, jI_i, jcpy_out, w32_id, jdiv_nn, jshr_k, jand_255] <;> first | done | omega | assumption)) | (intros; simp (disch := omega) only [jst_eq, jst_ne, jst_ni, jst_o, jI_i, jcpy_out, w32_id, jdiv_nn, *] <;> first | done | omega) | (intros; simp (disch := omega) only [jst_eq, jst_ne, jst_ni, jst_o, jI_i, jcpy_out, w32_id, jdiv_nn] at * <;> first | done | omega | assumption) | (intros; first | rfl | (exfalso; omega) | ((repeat' apply And.intro) <;> first | assumption | rfl | omega | trivial)))) -- o41 e30
                                                · skip
                                                  try simp (disch := omega) only [jst_eq, jst_ne, jst_ni, jI_i, jcmp_lt, jcmp_gt, w32_id, jcpy_out, Sum.elim_inl, Sum.elim_inr, jt2, jt3, jt4, jt5, jt6, jt7, jt8] at c29
                                                  refine OK_if (fun c31 => ?_) (fun c31 => ?_)
                                                  · skip
                                                    try simp (disch := omega) only [jst_eq, jst_ne, jst_ni, jI_i, jcmp_lt, jcmp_gt, w32_id, jcpy_out, Sum.elim_inl, Sum.elim_inr, jt2, jt3, jt4, jt5, jt6, jt7, jt8] at c31
                                                    unfold gX14_plain_j196
                                                    refine OK_if (fun c32 => ?_) (fun c32 => ?_)
                                                    · skip
                                                      try simp (disch := omega) only [jst_eq, jst_ne, jst_ni, jI_i, jcmp_lt, jcmp_gt, w32_id, jcpy_out, Sum.elim_inl, Sum.elim_inr, jt2, jt3, jt4, jt5, jt6, jt7, jt8] at c32
                                                      refine OK_some ?_
                                                      try dsimp only [Sum.elim_inl, Sum.elim_inr, jt2, jt3, jt4, jt5, jt6, jt7, jt8]
                                                      (first | ((unfold plP; (repeat first | rw [if_pos (by omega)] | rw [if_neg (by omega)]); done)) | ((unfold plP; (repeat first | rw [if_pos (by omega)] | rw [if_neg (by omega)]); (try simp only [jand_15]); (try rw [w32_id (by omega) (by omega)]); done)) | ((unfold plP; (repeat first | rw [if_pos (by omega)] | rw [if_neg (by omega)]); (try simp only [jand_15]); (try rw [w32_id (by omega) (by omega)]); omega)) | (first | assumption | omega | ((try dsimp only [jt2, jt3, jt4]); first | omega | (simp (disch := omega) only [jst_eq, jst_ne, jst_ni, jst_o, jI_i, jcpy_out, w32_id, jdiv_nn, jshr_k, jand_255] <;> first | done | omega | assumption)) | (intros; simp (disch := omega) only [jst_eq, jst_ne, jst_ni, jst_o, jI_i, jcpy_out, w32_id, jdiv_nn, *] <;> first | done | omega) | (intros; simp (disch := omega) only [jst_eq, jst_ne, jst_ni, jst_o, jI_i, jcpy_out, w32_id, jdiv_nn] at * <;> first | done | omega | assumption) | (intros; first | rfl | (exfalso; omega) | ((repeat' apply And.intro) <;> first | assumption | rfl | omega | trivial)))) -- o42 e31
                                                    · skip
                                                      try simp (disch := omega) only [jst_eq, jst_ne, jst_ni, jI_i, jcmp_lt, jcmp_gt, w32_id, jcpy_out, Sum.elim_inl, Sum.elim_inr, jt2, jt3, jt4, jt5, jt6, jt7, jt8] at c32
                                                      refine OK_some ?_
                                                      try dsimp only [Sum.elim_inl, Sum.elim_inr, jt2, jt3, jt4, jt5, jt6, jt7, jt8]
                                                      (first | ((unfold plP; (repeat first | rw [if_pos (by omega)] | rw [if_neg (by omega)]); done)) | ((unfold plP; (repeat first | rw [if_pos (by omega)] | rw [if_neg (by omega)]); (try simp only [jand_15]); (try rw [w32_id (by omega) (by omega)]); done)) | ((unfold plP; (repeat first | rw [if_pos (by omega)] | rw [if_neg (by omega)]); (try simp only [jand_15]); (try rw [w32_id (by omega) (by omega)]); omega)) | (first | assumption | omega | ((try dsimp only [jt2, jt3, jt4]); first | omega | (simp (disch := omega) only [jst_eq, jst_ne, jst_ni, jst_o, jI_i, jcpy_out, w32_id, jdiv_nn, jshr_k, jand_255] <;> first | done | omega | assumption)) | (intros; simp (disch := omega) only [jst_eq, jst_ne, jst_ni, jst_o, jI_i, jcpy_out, w32_id, jdiv_nn, *] <;> first | done | omega) | (intros; simp (disch := omega) only [jst_eq, jst_ne, jst_ni, jst_o, jI_i, jcpy_out, w32_id, jdiv_nn] at * <;> first | done | omega | assumption) | (intros; first | rfl | (exfalso; omega) | ((repeat' apply And.intro) <;> first | assumption | rfl | omega | trivial)))) -- o43 e32
                                                  · skip
                                                    try simp (disch := omega) only [jst_eq, jst_ne, jst_ni, jI_i, jcmp_lt, jcmp_gt, w32_id, jcpy_out, Sum.elim_inl, Sum.elim_inr, jt2, jt3, jt4, jt5, jt6, jt7, jt8] at c31
                                                    refine OK_if (fun c33 => ?_) (fun c33 => ?_)
                                                    · skip
                                                      try simp (disch := omega) only [jst_eq, jst_ne, jst_ni, jI_i, jcmp_lt, jcmp_gt, w32_id, jcpy_out, Sum.elim_inl, Sum.elim_inr, jt2, jt3, jt4, jt5, jt6, jt7, jt8] at c33
                                                      refine OK_some ?_
                                                      try dsimp only [Sum.elim_inl, Sum.elim_inr, jt2, jt3, jt4, jt5, jt6, jt7, jt8]
                                                      (first | ((unfold plP; (repeat first | rw [if_pos (by omega)] | rw [if_neg (by omega)]); done)) | ((unfold plP; (repeat first | rw [if_pos (by omega)] | rw [if_neg (by omega)]); (try simp only [jand_15]); (try rw [w32_id (by omega) (by omega)]); done)) | ((unfold plP; (repeat first | rw [if_pos (by omega)] | rw [if_neg (by omega)]); (try simp only [jand_15]); (try rw [w32_id (by omega) (by omega)]); omega)) | (first | assumption | omega | ((try dsimp only [jt2, jt3, jt4]); first | omega | (simp (disch := omega) only [jst_eq, jst_ne, jst_ni, jst_o, jI_i, jcpy_out, w32_id, jdiv_nn, jshr_k, jand_255] <;> first | done | omega | assumption)) | (intros; simp (disch := omega) only [jst_eq, jst_ne, jst_ni, jst_o, jI_i, jcpy_out, w32_id, jdiv_nn, *] <;> first | done | omega) | (intros; simp (disch := omega) only [jst_eq, jst_ne, jst_ni, jst_o, jI_i, jcpy_out, w32_id, jdiv_nn] at * <;> first | done | omega | assumption) | (intros; first | rfl | (exfalso; omega) | ((repeat' apply And.intro) <;> first | assumption | rfl | omega | trivial)))) -- o44 e33
                                                    · skip
                                                      try simp (disch := omega) only [jst_eq, jst_ne, jst_ni, jI_i, jcmp_lt, jcmp_gt, w32_id, jcpy_out, Sum.elim_inl, Sum.elim_inr, jt2, jt3, jt4, jt5, jt6, jt7, jt8] at c33
                                                      refine OK_jb (vX14_taken _ _ (by (first | ((unfold plP; (repeat first | rw [if_pos (by omega)] | rw [if_neg (by omega)]); done)) | ((unfold plP; (repeat first | rw [if_pos (by omega)] | rw [if_neg (by omega)]); (try simp only [jand_15]); (try rw [w32_id (by omega) (by omega)]); done)) | ((unfold plP; (repeat first | rw [if_pos (by omega)] | rw [if_neg (by omega)]); (try simp only [jand_15]); (try rw [w32_id (by omega) (by omega)]); omega)) | (first | assumption | omega | ((try dsimp only [jt2, jt3, jt4]); first | omega | (simp (disch := omega) only [jst_eq, jst_ne, jst_ni, jst_o, jI_i, jcpy_out, w32_id, jdiv_nn, jshr_k, jand_255] <;> first | done | omega | assumption)) | (intros; simp (disch := omega) only [jst_eq, jst_ne, jst_ni, jst_o, jI_i, jcpy_out, w32_id, jdiv_nn, *] <;> first | done | omega) | (intros; simp (disch := omega) only [jst_eq, jst_ne, jst_ni, jst_o, jI_i, jcpy_out, w32_id, jdiv_nn] at * <;> first | done | omega | assumption) | (intros; first | rfl | (exfalso; omega) | ((repeat' apply And.intro) <;> first | assumption | rfl | omega | trivial)))))) (fun v52 r10 => ?_)
                                                      try dsimp only [Sum.elim_inl, Sum.elim_inr, jt2, jt3, jt4, jt5, jt6, jt7, jt8] at r10
                                                      have v10 := r10
                                                      clear r10
                                                      try simp (disch := omega) only [jst_eq, jst_ne, jst_ni, jI_i, jcmp_lt, jcmp_gt, w32_id, jcpy_out, Sum.elim_inl, Sum.elim_inr, jt2, jt3, jt4, jt5, jt6, jt7, jt8] at v10
                                                      refine OK_some ?_
                                                      try dsimp only [Sum.elim_inl, Sum.elim_inr, jt2, jt3, jt4, jt5, jt6, jt7, jt8]
                                                      (unfold plP; (repeat first | rw [if_pos (by omega)] | rw [if_neg (by omega)]); rw [jand_15]; have e : v52 = wfr a1 1 := (by assumption); have q1 := g2 (by omega); have r := wfr_r (n := 1) q1.1; rw [e, w32_id (by omega) (by omega)]) -- o46 e34

