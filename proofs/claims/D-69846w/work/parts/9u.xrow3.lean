/-! x: a row is read, whole -/
def rwV (B : Int → Int) (n : Int) (r : RWt) : Int := if isN B n r.2 3025044 then -1 else vlV B n r.2
def frRw (a m : Int) (h h' : AH) : Prop := ∀ b s, ¬ (b = 441 ∧ ((2 ≤ s ∧ s ≤ 9) ∨ s = 18)) → ¬ (b = a + 6 ∧ 3 * m ≤ s ∧ s < 3 * m + 3) → ¬ (b = a + 7 ∧ s = m) → ¬ (b = a ∧ s = 8) → h' b s = h b s
theorem frRw_t {a m : Int} {h h1 h2 : AH} (x : frRw a m h h1) (y : frRw a m h1 h2) : frRw a m h h2 := fun b s y1 y2 y3 y4 => (y b s y1 y2 y3 y4).trans (x b s y1 y2 y3 y4)
theorem vX13_row_j218 (a2 : Int) (a5 : Int) {h : AH} {B : Int → Int} {n A a m la : Int} {ks : List Int} {R : Int ⊕ Int} (hB : ∀ i, 0 ≤ i → i < n → 0 ≤ B i ∧ B i < 256) (rk : rdK B n A a ks la m h) (sx : Sx B n R h) (rm : (a2 = 0 ∨ a2 = 1) ∧ (a2 = 1 → m < 12)) : OK (gX13_row_j218 a2 a5 h) (fun h' => (Sx B n (bnd R (pW B n 59)) h') ∧ (f8X h' ∧ FK h' = FK h ∧ (h' 441 6 = 0 → rdK B n A a ks la (m + a2) h' ∧ (a2 = 1 → h' (a + 7) m = a5))) ∧ (∀ b s, ¬ (b = 441 ∧ 2 ≤ s ∧ s ≤ 7) → ¬ (b = a + 7 ∧ s = m) → ¬ (b = a ∧ s = 8) → h' b s = h b s)) := by
  have LA : a = 271 ∨ a = 289 := rk.2.2.1.1
  have M12 := rk.2.2.2.2.2.1
  unfold gX13_row_j218
  refine OK_jb (vX13_want (B := B) (n := n) (A := A) (c := 59) (r := R) _ (by exact rk.1) (by exact hB) (by exact sx) (by exact Or.inr ⟨by unfold sgn; omega, rfl⟩)) (fun h34 r1 => ?_)
  try dsimp only [Sum.elim_inl, Sum.elim_inr, jt2, jt3, jt4, jt5, jt6, jt7, jt8] at r1
  obtain ⟨sx1, fr1⟩ := r1
  try simp (disch := omega) only [jst_eq, jst_ne, jst_ni, jI_i, jcmp_lt, jcmp_gt, w32_id, jcpy_out, Sum.elim_inl, Sum.elim_inr, jt2, jt3, jt4, jt5, jt6, jt7, jt8] at sx1
  try simp (disch := omega) only [jst_eq, jst_ne, jst_ni, jI_i, jcmp_lt, jcmp_gt, w32_id, jcpy_out, Sum.elim_inl, Sum.elim_inr, jt2, jt3, jt4, jt5, jt6, jt7, jt8] at fr1
  have F34 : f8X h34 := f8X_f rk.2.2.2.2.2.2.2 (fun s y => fr1 _ _ (by omega))
  have K34 : FK h34 = FK h := FK_fr (fr1 _ _ (by omega)) (fr1 _ _ (by omega))
  have RK34 : rdK B n A a ks la m h34 := rdK_g rk (fun b s y _ => fr1 b s (by omega)) F34
  have E20 : h34 441 20 = a := RK34.2.2.1.2
  have E8 : h34 a 8 = m := RK34.2.2.2.2.2.1.1
  have A34 := RK34.2.2.2.2.2.2.1
  refine OK_if (fun c1 => ?_) (fun c1 => ?_)
  · skip
    try simp (disch := omega) only [jst_eq, jst_ne, jst_ni, jI_i, jcmp_lt, jcmp_gt, w32_id, jcpy_out, Sum.elim_inl, Sum.elim_inr, jt2, jt3, jt4, jt5, jt6, jt7, jt8] at c1
    refine OK_if (fun c2 => ?_) (fun c2 => ?_)
    · skip
      try simp (disch := omega) only [jst_eq, jst_ne, jst_ni, jI_i, jcmp_lt, jcmp_gt, w32_id, jcpy_out, Sum.elim_inl, Sum.elim_inr, jt2, jt3, jt4, jt5, jt6, jt7, jt8] at c2
      refine OK_some ?_
      try dsimp only [Sum.elim_inl, Sum.elim_inr, jt2, jt3, jt4, jt5, jt6, jt7, jt8]
      try dsimp only [Sum.elim_inl, Sum.elim_inr, jt2, jt3, jt4, jt5, jt6, jt7, jt8]
      refine ⟨?_, ?_, ?_⟩
      · (first | ((unfold isX4; omega)) | (first | assumption | omega | ((try dsimp only [jt2, jt3, jt4]); first | omega | (simp (disch := omega) only [jst_eq, jst_ne, jst_ni, jst_o, jI_i, jcpy_out, w32_id, jdiv_nn, jshr_k, jand_255] <;> first | done | omega | assumption)) | (intros; simp (disch := omega) only [jst_eq, jst_ne, jst_ni, jst_o, jI_i, jcpy_out, w32_id, jdiv_nn, *] <;> first | done | omega) | (intros; simp (disch := omega) only [jst_eq, jst_ne, jst_ni, jst_o, jI_i, jcpy_out, w32_id, jdiv_nn] at * <;> first | done | omega | assumption) | (intros; first | rfl | (exfalso; omega) | ((repeat' apply And.intro) <;> first | assumption | rfl | omega | trivial)))) -- o5 e1.1
      · exact ⟨F34, K34, fun _ => ⟨by rw [show m + a2 = m by omega]; exact RK34, fun z => by omega⟩⟩ -- o6 e1.2
      · exact fun b s y1 _ _ => fr1 b s y1 -- o7 e1.3
    · skip
      try simp (disch := omega) only [jst_eq, jst_ne, jst_ni, jI_i, jcmp_lt, jcmp_gt, w32_id, jcpy_out, Sum.elim_inl, Sum.elim_inr, jt2, jt3, jt4, jt5, jt6, jt7, jt8] at c2
      rw [E20, E8]
      refine OK_jg (by (first | ((unfold isX4; omega)) | (first | assumption | omega | ((try dsimp only [jt2, jt3, jt4]); first | omega | (simp (disch := omega) only [jst_eq, jst_ne, jst_ni, jst_o, jI_i, jcpy_out, w32_id, jdiv_nn, jshr_k, jand_255] <;> first | done | omega | assumption)) | (intros; simp (disch := omega) only [jst_eq, jst_ne, jst_ni, jst_o, jI_i, jcpy_out, w32_id, jdiv_nn, *] <;> first | done | omega) | (intros; simp (disch := omega) only [jst_eq, jst_ne, jst_ni, jst_o, jI_i, jcpy_out, w32_id, jdiv_nn] at * <;> first | done | omega | assumption) | (intros; first | rfl | (exfalso; omega) | ((repeat' apply And.intro) <;> first | assumption | rfl | omega | trivial))))) ?_ -- o8
      refine OK_jl ?_
      have F37 : ∀ b s, ¬ (b = a ∧ s = 8) → jst h34 a 8 (w32 (m + 1)) b s = h34 b s := fun b s y => jst_o y
      have V37 : jst h34 a 8 (w32 (m + 1)) a 8 = m + 1 := jst_eq.trans (w32_id (by omega) (by omega))
      generalize jst h34 a 8 (w32 (m + 1)) = g37 at *
      refine OK_jg (by (first | ((unfold isX4; omega)) | (first | assumption | omega | ((try dsimp only [jt2, jt3, jt4]); first | omega | (simp (disch := omega) only [jst_eq, jst_ne, jst_ni, jst_o, jI_i, jcpy_out, w32_id, jdiv_nn, jshr_k, jand_255] <;> first | done | omega | assumption)) | (intros; simp (disch := omega) only [jst_eq, jst_ne, jst_ni, jst_o, jI_i, jcpy_out, w32_id, jdiv_nn, *] <;> first | done | omega) | (intros; simp (disch := omega) only [jst_eq, jst_ne, jst_ni, jst_o, jI_i, jcpy_out, w32_id, jdiv_nn] at * <;> first | done | omega | assumption) | (intros; first | rfl | (exfalso; omega) | ((repeat' apply And.intro) <;> first | assumption | rfl | omega | trivial))))) ?_ -- o9
      refine OK_jl ?_
      have F38 : ∀ b s, ¬ (b = a + 7 ∧ s = m) → jst g37 (a + 7) m a5 b s = g37 b s := fun b s y => jst_o y
      have V38 : jst g37 (a + 7) m a5 (a + 7) m = a5 := jst_eq
      generalize jst g37 (a + 7) m a5 = g38 at *
      have G38 : ∀ b s, ¬ (b = a ∧ s = 8) → ¬ (b = a + 7 ∧ s = m) → g38 b s = h34 b s := fun b s y1 y2 => (F38 b s y2).trans (F37 b s y1)
      have F8 : f8X g38 := f8X_f F34 (fun s y => G38 _ _ (by omega) (by omega))
      have K38 : FK g38 = FK h := (FK_fr (G38 _ _ (by omega) (by omega)) (G38 _ _ (by omega) (by omega))).trans K34
      refine OK_some ?_
      try dsimp only [Sum.elim_inl, Sum.elim_inr, jt2, jt3, jt4, jt5, jt6, jt7, jt8]
      try dsimp only [Sum.elim_inl, Sum.elim_inr, jt2, jt3, jt4, jt5, jt6, jt7, jt8]
      refine ⟨?_, ?_, ?_⟩
      · exact Sx_fr sx1 (fun s s0 s1 => G38 _ _ (by omega) (by omega)) -- o10 e2.1
      · exact ⟨F8, K38, fun _ => ⟨by rw [show m + a2 = m + 1 by omega]; exact rdK_f RK34 (fun b s y1 y2 y3 => G38 b s y3 (by omega)) ⟨by rw [F38 _ _ (by omega)]; exact V37, by omega, by omega⟩ F8, fun _ => V38⟩⟩ -- o11 e2.2
      · exact fun b s y1 y2 y3 => (G38 b s y3 y2).trans (fr1 b s y1) -- o12 e2.3
  · skip
    try simp (disch := omega) only [jst_eq, jst_ne, jst_ni, jI_i, jcmp_lt, jcmp_gt, w32_id, jcpy_out, Sum.elim_inl, Sum.elim_inr, jt2, jt3, jt4, jt5, jt6, jt7, jt8] at c1
    refine OK_some ?_
    try dsimp only [Sum.elim_inl, Sum.elim_inr, jt2, jt3, jt4, jt5, jt6, jt7, jt8]
    try dsimp only [Sum.elim_inl, Sum.elim_inr, jt2, jt3, jt4, jt5, jt6, jt7, jt8]
    refine ⟨?_, ?_, ?_⟩
    · (first | ((unfold isX4; omega)) | (first | assumption | omega | ((try dsimp only [jt2, jt3, jt4]); first | omega | (simp (disch := omega) only [jst_eq, jst_ne, jst_ni, jst_o, jI_i, jcpy_out, w32_id, jdiv_nn, jshr_k, jand_255] <;> first | done | omega | assumption)) | (intros; simp (disch := omega) only [jst_eq, jst_ne, jst_ni, jst_o, jI_i, jcpy_out, w32_id, jdiv_nn, *] <;> first | done | omega) | (intros; simp (disch := omega) only [jst_eq, jst_ne, jst_ni, jst_o, jI_i, jcpy_out, w32_id, jdiv_nn] at * <;> first | done | omega | assumption) | (intros; first | rfl | (exfalso; omega) | ((repeat' apply And.intro) <;> first | assumption | rfl | omega | trivial)))) -- o13 e3.1
    · exact ⟨F34, K34, fun z => absurd z c1⟩ -- o14 e3.2
    · exact fun b s y1 _ _ => fr1 b s y1 -- o15 e3.3
/-- what a row's end leaves -/
def rwQ2 (B : Int → Int) (n A a la m K : Int) (ks vs : List Int) (room : Int) (W : Int ⊕ (RWt × Int)) (h : AH) : Prop := match W with
  | .inl z => Sx B n (.inl z) h ∧ f8X h
  | .inr (r, q) => r.1 = vs ∧ Sx B n (.inr q) h ∧ rdK B n A a ks la (m + room) h ∧ FK h = min K (if ¬ isN B n r.2 3025044 ∧ vlK B n r.2 ≠ la then tS B n r.2 * 8 + 3 else 1000000) ∧ (room = 1 → h (a + 7) m = rwV B n r)
theorem pRw_v {B : Int → Int} {n q3 : Int} {vs : List Int} (g : isN B n q3 3025044 ∨ isVl B n q3) : pRw B n vs q3 = bS (nx B n q3) fun q4 => bS (pW B n 59 q4) fun q5 => .inr ((vs, q3), q5) := if_pos g
/-- the end of a row, all states -/
theorem rwQ2_of {B : Int → Int} {n A a la m K : Int} {ks vs : List Int} {room q3 : Int} {W : Int ⊕ (RWt × Int)} {h : AH} (g : isN B n q3 3025044 ∨ isVl B n q3) (w : W = pRw B n vs q3) (s : Sx B n (bnd (nx B n q3) (pW B n 59)) h) (n5 : n ≤ 2000 ∧ 0 ≤ n) (f : f8X h) (k : FK h = min K (if ¬ isN B n q3 3025044 ∧ vlK B n q3 ≠ la then tS B n q3 * 8 + 3 else 1000000)) (o : h 441 6 = 0 → rdK B n A a ks la (m + room) h ∧ (room = 1 → h (a + 7) m = rwV B n (vs, q3))) : rwQ2 B n A a la m K ks vs room W h := by
  rw [w, pRw_v g]
  cases e : nx B n q3 with
  | inl z => rw [e] at s; exact ⟨s, f⟩
  | inr q4 =>
    rw [e] at s
    have s : Sx B n (pW B n 59 q4) h := s
    show rwQ2 B n A a la m K ks vs room (bS (pW B n 59 q4) fun q5 => .inr ((vs, q3), q5)) h
    cases e5 : pW B n 59 q4 with
    | inl z => rw [e5] at s; exact ⟨s, f⟩
    | inr q5 =>
      rw [e5] at s
      have b : h 441 6 = 0 := (Sx_inr s).1.1
      exact ⟨rfl, s, (o b).1, k, (o b).2⟩
theorem vX13_row_j145 (a2 : Int) {h : AH} {B : Int → Int} {n A a m la : Int} {ks vs : List Int} {R : Int ⊕ Int} (hB : ∀ i, 0 ≤ i → i < n → 0 ≤ B i ∧ B i < 256) (rk : rdK B n A a ks la m h) (sx : Sx B n R h) (rm : (a2 = 0 ∨ a2 = 1) ∧ (a2 = 1 → m < 12)) : OK (gX13_row_j145 a2 h) (fun h' => (rwQ2 B n A a la m (FK h) ks vs a2 (bS (bnd R (pW B n 61)) (pRw B n vs)) h') ∧ (∀ b s, ¬ (b = 441 ∧ ((2 ≤ s ∧ s ≤ 9) ∨ s = 18)) → ¬ (b = a + 7 ∧ s = m) → ¬ (b = a ∧ s = 8) → h' b s = h b s)) := by
  have LA : a = 271 ∨ a = 289 := rk.2.2.1.1
  have M12 := rk.2.2.2.2.2.1
  have NN := rk.1.2.2
  unfold gX13_row_j145
  refine OK_jb (vX13_want (B := B) (n := n) (A := A) (c := 61) (r := R) _ (by exact rk.1) (by exact hB) (by exact sx) (by exact Or.inr ⟨by unfold sgn; omega, rfl⟩)) (fun h18 r1 => ?_)
  try dsimp only [Sum.elim_inl, Sum.elim_inr, jt2, jt3, jt4, jt5, jt6, jt7, jt8] at r1
  obtain ⟨sx1, fr1⟩ := r1
  try simp (disch := omega) only [jst_eq, jst_ne, jst_ni, jI_i, jcmp_lt, jcmp_gt, w32_id, jcpy_out, Sum.elim_inl, Sum.elim_inr, jt2, jt3, jt4, jt5, jt6, jt7, jt8] at sx1
  try simp (disch := omega) only [jst_eq, jst_ne, jst_ni, jI_i, jcmp_lt, jcmp_gt, w32_id, jcpy_out, Sum.elim_inl, Sum.elim_inr, jt2, jt3, jt4, jt5, jt6, jt7, jt8] at fr1
  have F18 : f8X h18 := f8X_f rk.2.2.2.2.2.2.2 (fun s y => fr1 _ _ (by omega))
  have K18 : FK h18 = FK h := FK_fr (fr1 _ _ (by omega)) (fr1 _ _ (by omega))
  have RK18 : rdK B n A a ks la m h18 := rdK_g rk (fun b s y _ => fr1 b s (by omega)) F18
  refine OK_if (fun c1 => ?_) (fun c1 => ?_)
  · skip
    try simp (disch := omega) only [jst_eq, jst_ne, jst_ni, jI_i, jcmp_lt, jcmp_gt, w32_id, jcpy_out, Sum.elim_inl, Sum.elim_inr, jt2, jt3, jt4, jt5, jt6, jt7, jt8] at c1
    obtain ⟨q, NB1, KK⟩ := Sx_nb sx1 c1
    have q0 := NB1.2.2
    refine OK_jlx (fun x20 ex20 => ?_)
    try simp (disch := omega) only [jst_eq, jst_ne, jst_ni, jI_i, jcmp_lt, jcmp_gt, w32_id, jcpy_out, Sum.elim_inl, Sum.elim_inr, jt2, jt3, jt4, jt5, jt6, jt7, jt8] at ex20
    refine OK_jb (vX13_is (B := B) (n := n) (A := A) (q := q) (w := 3025044) _ (by exact RK18.1) (by exact NB1) (by exact nm_error RK18.2.1)) (fun v22 r2 => ?_)
    try dsimp only [Sum.elim_inl, Sum.elim_inr, jt2, jt3, jt4, jt5, jt6, jt7, jt8] at r2
    have v2 := r2
    clear r2
    try simp (disch := omega) only [jst_eq, jst_ne, jst_ni, jI_i, jcmp_lt, jcmp_gt, w32_id, jcpy_out, Sum.elim_inl, Sum.elim_inr, jt2, jt3, jt4, jt5, jt6, jt7, jt8] at v2
    refine OK_if (fun c2 => ?_) (fun c2 => ?_)
    · skip
      try simp (disch := omega) only [jst_eq, jst_ne, jst_ni, jI_i, jcmp_lt, jcmp_gt, w32_id, jcpy_out, Sum.elim_inl, Sum.elim_inr, jt2, jt3, jt4, jt5, jt6, jt7, jt8] at c2
      have NE : ¬ isN B n q 3025044 := fun z => by { rw [if_pos z] at v2; omega }
      refine OK_jb2 (vX13_valueB (B := B) (n := n) (A := A) (R := bnd R (pW B n 61)) (by exact RK18.1) (by exact hB) (by exact sx1) (by exact RK18.2.1)) (fun v25 h26 r3 => ?_)
      try dsimp only [Sum.elim_inl, Sum.elim_inr, jt2, jt3, jt4, jt5, jt6, jt7, jt8] at r3
      obtain ⟨sx3, v3, rg3, fr3, bb3⟩ := r3
      try simp (disch := omega) only [jst_eq, jst_ne, jst_ni, jI_i, jcmp_lt, jcmp_gt, w32_id, jcpy_out, Sum.elim_inl, Sum.elim_inr, jt2, jt3, jt4, jt5, jt6, jt7, jt8] at sx3
      try simp (disch := omega) only [jst_eq, jst_ne, jst_ni, jI_i, jcmp_lt, jcmp_gt, w32_id, jcpy_out, Sum.elim_inl, Sum.elim_inr, jt2, jt3, jt4, jt5, jt6, jt7, jt8] at v3
      try simp (disch := omega) only [jst_eq, jst_ne, jst_ni, jI_i, jcmp_lt, jcmp_gt, w32_id, jcpy_out, Sum.elim_inl, Sum.elim_inr, jt2, jt3, jt4, jt5, jt6, jt7, jt8] at rg3
      try simp (disch := omega) only [jst_eq, jst_ne, jst_ni, jI_i, jcmp_lt, jcmp_gt, w32_id, jcpy_out, Sum.elim_inl, Sum.elim_inr, jt2, jt3, jt4, jt5, jt6, jt7, jt8] at fr3
      try simp (disch := omega) only [jst_eq, jst_ne, jst_ni, jI_i, jcmp_lt, jcmp_gt, w32_id, jcpy_out, Sum.elim_inl, Sum.elim_inr, jt2, jt3, jt4, jt5, jt6, jt7, jt8] at bb3
      have F26 : f8X h26 := f8X_f F18 (fun s y => fr3 _ _ (by omega))
      have K26 : FK h26 = FK h := (FK_fr (fr3 _ _ (by omega)) (fr3 _ _ (by omega))).trans K18
      have RK26 : rdK B n A a ks la m h26 := rdK_g RK18 (fun b s y _ => fr3 b s (by omega)) F26
      have E20 : h26 441 20 = a := RK26.2.2.1.2
      have E2 : h26 a 2 = la := RK26.2.2.2.2.1.1
      obtain ⟨RR, eR⟩ : ∃ RR, RR = bnd (bnd R (pW B n 61)) (pVl B n) := ⟨_, rfl⟩
      refine OK_if (fun c3 => ?_) (fun c3 => ?_)
      · skip
        try simp (disch := omega) only [jst_eq, jst_ne, jst_ni, jI_i, jcmp_lt, jcmp_gt, w32_id, jcpy_out, Sum.elim_inl, Sum.elim_inr, jt2, jt3, jt4, jt5, jt6, jt7, jt8] at c3
        obtain ⟨q', eQ, VQ⟩ := bb3 c3
        have eq : q' = q := by { rcases KK with z | z; { rw [z.1] at eQ; cases eQ }; { rw [z.1] at eQ; cases eQ; rfl } }
        rw [eq] at eQ VQ
        have VV := v3 q eQ VQ
        have X3 : x20 = tS B n q := by { rw [ex20]; exact NB1.2.1.1 }
        have SR := tS_r (B := B) q0.2
        have eRR : RR = nx B n q := by { rw [eR, eQ]; exact if_pos VQ }
        rw [E20, E2]
        refine OK_jg (by (first | ((unfold isX4; omega)) | (first | assumption | omega | ((try dsimp only [jt2, jt3, jt4]); first | omega | (simp (disch := omega) only [jst_eq, jst_ne, jst_ni, jst_o, jI_i, jcpy_out, w32_id, jdiv_nn, jshr_k, jand_255] <;> first | done | omega | assumption)) | (intros; simp (disch := omega) only [jst_eq, jst_ne, jst_ni, jst_o, jI_i, jcpy_out, w32_id, jdiv_nn, *] <;> first | done | omega) | (intros; simp (disch := omega) only [jst_eq, jst_ne, jst_ni, jst_o, jI_i, jcpy_out, w32_id, jdiv_nn] at * <;> first | done | omega | assumption) | (intros; first | rfl | (exfalso; omega) | ((repeat' apply And.intro) <;> first | assumption | rfl | omega | trivial))))) ?_ -- o12
        refine OK_if (fun c4 => ?_) (fun c4 => ?_)
        · skip
          try simp (disch := omega) only [jst_eq, jst_ne, jst_ni, jI_i, jcmp_lt, jcmp_gt, w32_id, jcpy_out, Sum.elim_inl, Sum.elim_inr, jt2, jt3, jt4, jt5, jt6, jt7, jt8] at c4
          have C4 : vlK B n q = la := VV.2.symm.trans c4
          refine OK_mono (vX13_row_j218 (B := B) (n := n) (A := A) (a := a) (m := m) (la := la) (ks := ks) (R := RR) _ _ (by exact hB) (by exact RK26) (by (rw [eR]; exact sx3)) (by exact rm)) (fun r r4 => ?_)
          try dsimp only [Sum.elim_inl, Sum.elim_inr, jt2, jt3, jt4, jt5, jt6, jt7, jt8] at r4
          obtain ⟨sx4, rk4, fr4⟩ := r4
          try simp (disch := omega) only [jst_eq, jst_ne, jst_ni, jI_i, jcmp_lt, jcmp_gt, w32_id, jcpy_out, Sum.elim_inl, Sum.elim_inr, jt2, jt3, jt4, jt5, jt6, jt7, jt8] at sx4
          try simp (disch := omega) only [jst_eq, jst_ne, jst_ni, jI_i, jcmp_lt, jcmp_gt, w32_id, jcpy_out, Sum.elim_inl, Sum.elim_inr, jt2, jt3, jt4, jt5, jt6, jt7, jt8] at rk4
          try simp (disch := omega) only [jst_eq, jst_ne, jst_ni, jI_i, jcmp_lt, jcmp_gt, w32_id, jcpy_out, Sum.elim_inl, Sum.elim_inr, jt2, jt3, jt4, jt5, jt6, jt7, jt8] at fr4
          try dsimp only [Sum.elim_inl, Sum.elim_inr, jt2, jt3, jt4, jt5, jt6, jt7, jt8]
          try dsimp only [Sum.elim_inl, Sum.elim_inr, jt2, jt3, jt4, jt5, jt6, jt7, jt8]
          refine ⟨?_, ?_⟩
          · exact rwQ2_of (Or.inr VQ) (by rw [eQ]; rfl) (by rw [← eRR]; exact sx4) ⟨NN.2.1, NN.1⟩ rk4.1 (by rw [rk4.2.1, K26, if_neg (fun z => z.2 C4)]; have := rk.2.2.2.2.2.2.2.2.2; omega) (fun b => ⟨(rk4.2.2 b).1, fun z => by rw [(rk4.2.2 b).2 z, VV.1]; exact (if_neg NE).symm⟩) -- o17 e1.1
          · exact fun b s y1 y3 y4 => (fr4 b s (by omega) y3 y4).trans ((fr3 b s (by omega)).trans (fr1 b s (by omega))) -- o18 e1.2
        · skip
          try simp (disch := omega) only [jst_eq, jst_ne, jst_ni, jI_i, jcmp_lt, jcmp_gt, w32_id, jcpy_out, Sum.elim_inl, Sum.elim_inr, jt2, jt3, jt4, jt5, jt6, jt7, jt8] at c4
          have C4 : vlK B n q ≠ la := fun z => c4 (VV.2.trans z)
          refine OK_jb (vX13_err _ _ (by exact ⟨F26.1, F26.2.1⟩) (by omega)) (fun h30 r5 => ?_)
          try dsimp only [Sum.elim_inl, Sum.elim_inr, jt2, jt3, jt4, jt5, jt6, jt7, jt8] at r5
          obtain ⟨f5, k5, fr5⟩ := r5
          try simp (disch := omega) only [jst_eq, jst_ne, jst_ni, jI_i, jcmp_lt, jcmp_gt, w32_id, jcpy_out, Sum.elim_inl, Sum.elim_inr, jt2, jt3, jt4, jt5, jt6, jt7, jt8] at f5
          try simp (disch := omega) only [jst_eq, jst_ne, jst_ni, jI_i, jcmp_lt, jcmp_gt, w32_id, jcpy_out, Sum.elim_inl, Sum.elim_inr, jt2, jt3, jt4, jt5, jt6, jt7, jt8] at k5
          try simp (disch := omega) only [jst_eq, jst_ne, jst_ni, jI_i, jcmp_lt, jcmp_gt, w32_id, jcpy_out, Sum.elim_inl, Sum.elim_inr, jt2, jt3, jt4, jt5, jt6, jt7, jt8] at fr5
          have F30 : f8X h30 := ⟨f5.1, f5.2, by rw [k5]; have := F26.2.2; omega⟩
          have RK30 : rdK B n A a ks la m h30 := rdK_g RK26 (fun b s y _ => fr5 b s (by omega)) F30
          refine OK_mono (vX13_row_j218 (B := B) (n := n) (A := A) (a := a) (m := m) (la := la) (ks := ks) (R := RR) _ _ (by exact hB) (by exact RK30) (by (rw [eR]; exact Sx_fr sx3 (fun s s0 s1 => fr5 _ _ (by omega)))) (by exact rm)) (fun r r6 => ?_)
          try dsimp only [Sum.elim_inl, Sum.elim_inr, jt2, jt3, jt4, jt5, jt6, jt7, jt8] at r6
          obtain ⟨sx6, rk6, fr6⟩ := r6
          try simp (disch := omega) only [jst_eq, jst_ne, jst_ni, jI_i, jcmp_lt, jcmp_gt, w32_id, jcpy_out, Sum.elim_inl, Sum.elim_inr, jt2, jt3, jt4, jt5, jt6, jt7, jt8] at sx6
          try simp (disch := omega) only [jst_eq, jst_ne, jst_ni, jI_i, jcmp_lt, jcmp_gt, w32_id, jcpy_out, Sum.elim_inl, Sum.elim_inr, jt2, jt3, jt4, jt5, jt6, jt7, jt8] at rk6
          try simp (disch := omega) only [jst_eq, jst_ne, jst_ni, jI_i, jcmp_lt, jcmp_gt, w32_id, jcpy_out, Sum.elim_inl, Sum.elim_inr, jt2, jt3, jt4, jt5, jt6, jt7, jt8] at fr6
          try dsimp only [Sum.elim_inl, Sum.elim_inr, jt2, jt3, jt4, jt5, jt6, jt7, jt8]
          try dsimp only [Sum.elim_inl, Sum.elim_inr, jt2, jt3, jt4, jt5, jt6, jt7, jt8]
          refine ⟨?_, ?_⟩
          · exact rwQ2_of (Or.inr VQ) (by rw [eQ]; rfl) (by rw [← eRR]; exact sx6) ⟨NN.2.1, NN.1⟩ rk6.1 (by rw [rk6.2.1, k5, K26, if_pos ⟨NE, C4⟩, X3]) (fun b => ⟨(rk6.2.2 b).1, fun z => by rw [(rk6.2.2 b).2 z, VV.1]; exact (if_neg NE).symm⟩) -- o25 e2.1
          · exact fun b s y1 y3 y4 => (fr6 b s (by omega) y3 y4).trans ((fr5 b s (by omega)).trans ((fr3 b s (by omega)).trans (fr1 b s (by omega)))) -- o26 e2.2
      · skip
        try simp (disch := omega) only [jst_eq, jst_ne, jst_ni, jI_i, jcmp_lt, jcmp_gt, w32_id, jcpy_out, Sum.elim_inl, Sum.elim_inr, jt2, jt3, jt4, jt5, jt6, jt7, jt8] at c3
        refine OK_mono (vX13_row_j218 (B := B) (n := n) (A := A) (a := a) (m := m) (la := la) (ks := ks) (R := RR) _ _ (by exact hB) (by exact RK26) (by (rw [eR]; exact sx3)) (by exact rm)) (fun r r7 => ?_)
        try dsimp only [Sum.elim_inl, Sum.elim_inr, jt2, jt3, jt4, jt5, jt6, jt7, jt8] at r7
        obtain ⟨sx7, rk7, fr7⟩ := r7
        try simp (disch := omega) only [jst_eq, jst_ne, jst_ni, jI_i, jcmp_lt, jcmp_gt, w32_id, jcpy_out, Sum.elim_inl, Sum.elim_inr, jt2, jt3, jt4, jt5, jt6, jt7, jt8] at sx7
        try simp (disch := omega) only [jst_eq, jst_ne, jst_ni, jI_i, jcmp_lt, jcmp_gt, w32_id, jcpy_out, Sum.elim_inl, Sum.elim_inr, jt2, jt3, jt4, jt5, jt6, jt7, jt8] at rk7
        try simp (disch := omega) only [jst_eq, jst_ne, jst_ni, jI_i, jcmp_lt, jcmp_gt, w32_id, jcpy_out, Sum.elim_inl, Sum.elim_inr, jt2, jt3, jt4, jt5, jt6, jt7, jt8] at fr7
        try dsimp only [Sum.elim_inl, Sum.elim_inr, jt2, jt3, jt4, jt5, jt6, jt7, jt8]
        try dsimp only [Sum.elim_inl, Sum.elim_inr, jt2, jt3, jt4, jt5, jt6, jt7, jt8]
        refine ⟨?_, ?_⟩
        · (obtain ⟨_, e⟩ := Sx_br sx3 c3; have w : bS (bnd R (pW B n 61)) (pRw B n vs) = .inl (h26 441 7) := (by rcases KK with k | k; { rw [k.1] at e ⊢; exact congrArg Sum.inl (Sum.inl.inj e) }; { rw [k.1] at e ⊢; show pRw B n vs q = _; by_cases g : isVl B n q; { have ev : bnd (.inr q) (pVl B n) = nx B n q := if_pos g; rw [ev] at e; rw [pRw_v (Or.inr g), e]; rfl }; { have ev : bnd (.inr q) (pVl B n) = .inl (tS B n q) := if_neg g; rw [ev] at e; have g2 : ¬ (isN B n q 3025044 ∨ isVl B n q) := (fun z => z.elim NE g); exact (if_neg g2).trans (congrArg Sum.inl (Sum.inl.inj e)) } }); rw [w]; rw [eR, e] at sx7; exact ⟨sx7, rk7.1⟩) -- o31 e3.1
        · exact fun b s y1 y3 y4 => (fr7 b s (by omega) y3 y4).trans ((fr3 b s (by omega)).trans (fr1 b s (by omega))) -- o32 e3.2
    · skip
      try simp (disch := omega) only [jst_eq, jst_ne, jst_ni, jI_i, jcmp_lt, jcmp_gt, w32_id, jcpy_out, Sum.elim_inl, Sum.elim_inr, jt2, jt3, jt4, jt5, jt6, jt7, jt8] at c2
      have NE : isN B n q 3025044 := Classical.byContradiction fun z => by { rw [if_neg z] at v2; omega }
      have K2 := KK.resolve_left (fun z => by { have := NE.1; omega })
      refine OK_jb (vX13_nextS (B := B) (n := n) (A := A) (q := q) (by exact RK18.1) (by exact hB) (by exact NB1) (by exact K2.2)) (fun h32 r8 => ?_)
      try dsimp only [Sum.elim_inl, Sum.elim_inr, jt2, jt3, jt4, jt5, jt6, jt7, jt8] at r8
      obtain ⟨sx8, fr8⟩ := r8
      try simp (disch := omega) only [jst_eq, jst_ne, jst_ni, jI_i, jcmp_lt, jcmp_gt, w32_id, jcpy_out, Sum.elim_inl, Sum.elim_inr, jt2, jt3, jt4, jt5, jt6, jt7, jt8] at sx8
      try simp (disch := omega) only [jst_eq, jst_ne, jst_ni, jI_i, jcmp_lt, jcmp_gt, w32_id, jcpy_out, Sum.elim_inl, Sum.elim_inr, jt2, jt3, jt4, jt5, jt6, jt7, jt8] at fr8
      have F32 : f8X h32 := f8X_f F18 (fun s y => fr8 _ _ (by omega))
      have K32 : FK h32 = FK h := (FK_fr (fr8 _ _ (by omega)) (fr8 _ _ (by omega))).trans K18
      have RK32 : rdK B n A a ks la m h32 := rdK_g RK18 (fun b s y _ => fr8 b s (by omega)) F32
      obtain ⟨RR, eR⟩ : ∃ RR, RR = nx B n q := ⟨_, rfl⟩
      refine OK_mono (vX13_row_j218 (B := B) (n := n) (A := A) (a := a) (m := m) (la := la) (ks := ks) (R := RR) _ _ (by exact hB) (by exact RK32) (by (rw [eR]; exact sx8)) (by exact rm)) (fun r r9 => ?_)
      try dsimp only [Sum.elim_inl, Sum.elim_inr, jt2, jt3, jt4, jt5, jt6, jt7, jt8] at r9
      obtain ⟨sx9, rk9, fr9⟩ := r9
      try simp (disch := omega) only [jst_eq, jst_ne, jst_ni, jI_i, jcmp_lt, jcmp_gt, w32_id, jcpy_out, Sum.elim_inl, Sum.elim_inr, jt2, jt3, jt4, jt5, jt6, jt7, jt8] at sx9
      try simp (disch := omega) only [jst_eq, jst_ne, jst_ni, jI_i, jcmp_lt, jcmp_gt, w32_id, jcpy_out, Sum.elim_inl, Sum.elim_inr, jt2, jt3, jt4, jt5, jt6, jt7, jt8] at rk9
      try simp (disch := omega) only [jst_eq, jst_ne, jst_ni, jI_i, jcmp_lt, jcmp_gt, w32_id, jcpy_out, Sum.elim_inl, Sum.elim_inr, jt2, jt3, jt4, jt5, jt6, jt7, jt8] at fr9
      try dsimp only [Sum.elim_inl, Sum.elim_inr, jt2, jt3, jt4, jt5, jt6, jt7, jt8]
      try dsimp only [Sum.elim_inl, Sum.elim_inr, jt2, jt3, jt4, jt5, jt6, jt7, jt8]
      refine ⟨?_, ?_⟩
      · exact rwQ2_of (Or.inl NE) (by rw [K2.1]; rfl) (by rw [← eR]; exact sx9) ⟨NN.2.1, NN.1⟩ rk9.1 (by rw [rk9.2.1, K32, if_neg (fun z => z.1 NE)]; have := rk.2.2.2.2.2.2.2.2.2; omega) (fun b => ⟨(rk9.2.2 b).1, fun z => by rw [(rk9.2.2 b).2 z]; exact (if_pos NE).symm⟩) -- o41 e4.1
      · exact fun b s y1 y3 y4 => (fr9 b s (by omega) y3 y4).trans ((fr8 b s (by omega)).trans (fr1 b s (by omega))) -- o42 e4.2
  · skip
    try simp (disch := omega) only [jst_eq, jst_ne, jst_ni, jI_i, jcmp_lt, jcmp_gt, w32_id, jcpy_out, Sum.elim_inl, Sum.elim_inr, jt2, jt3, jt4, jt5, jt6, jt7, jt8] at c1
    refine OK_some ?_
    try dsimp only [Sum.elim_inl, Sum.elim_inr, jt2, jt3, jt4, jt5, jt6, jt7, jt8]
    try dsimp only [Sum.elim_inl, Sum.elim_inr, jt2, jt3, jt4, jt5, jt6, jt7, jt8]
    refine ⟨?_, ?_⟩
    · (obtain ⟨_, e⟩ := Sx_br sx1 c1; rw [e] at sx1 ⊢; exact ⟨sx1, F18⟩) -- o43 e5.1
    · exact fun b s y1 y3 y4 => fr1 b s (by omega) -- o44 e5.2
/-- a row that was kept -/
def rwkX (B : Int → Int) (n a m : Int) (ks : List Int) (r : RWt) (h : AH) : Prop := h (a + 7) m = rwV B n r ∧ ∀ j : Nat, j < ks.length → ∀ q, r.1[j]? = some q → h (a + 6) (3 * m + j) = vlV B n q
def rwQx (B : Int → Int) (n A a la m : Int) (K : RWt → Int) (ks : List Int) (room : Int) (W : Int ⊕ (RWt × Int)) (h : AH) : Prop := match W with
  | .inl z => Sx B n (.inl z) h ∧ f8X h
  | .inr (r, q) => Sx B n (.inr q) h ∧ rdK B n A a ks la (m + room) h ∧ FK h = K r ∧ (room = 1 → rwkX B n a m ks r h)
def laK (B : Int → Int) (n la : Int) (r : RWt) : Int := if ¬ isN B n r.2 3025044 ∧ vlK B n r.2 ≠ la then tS B n r.2 * 8 + 3 else 1000000
theorem rwQ_of {B : Int → Int} {n A a la m K0 room : Int} {ks vs : List Int} {R3 : Int ⊕ Int} {W : Int ⊕ (RWt × Int)} {K : RWt → Int} {h : AH} (o : rwQ2 B n A a la m K0 ks vs room (bS (bnd R3 (pW B n 61)) (pRw B n vs)) h) (w : W = bS (bnd R3 (pW B n 61)) (pRw B n vs)) (k : ∀ q3, R3 = .inr q3 → ∀ r : RWt, r.1 = vs → min K0 (laK B n la r) = K r) (v : ∀ q3, R3 = .inr q3 → room = 1 → ∀ j : Nat, j < ks.length → ∀ q, vs[j]? = some q → h (a + 6) (3 * m + j) = vlV B n q) : rwQx B n A a la m K ks room W h := by
  rw [w]
  cases R3 with
  | inl z => exact o
  | inr q3 =>
    cases e : bS (bnd (.inr q3) (pW B n 61)) (pRw B n vs) with
    | inl z => rw [e] at o; exact o
    | inr x =>
      obtain ⟨r, q'⟩ := x
      rw [e] at o
      obtain ⟨o1, o2, o3, o4, o5⟩ := o
      exact ⟨o2, o3, o4.trans (k q3 rfl r o1), fun z => ⟨o5 z, fun j jk q e => v q3 rfl z j jk q (by rw [← o1]; exact e)⟩⟩
theorem okV_of {B : Int → Int} {n A a la m K room y : Int} {ks : List Int} {W : Int ⊕ (List Int × Int)} {h : AH} (o : okVr B n A a la m ks room K W y h) : ∃ (R3 : Int ⊕ Int) (vs : List Int), Sx B n R3 h ∧ f8X h ∧ (bS W fun x => bS (pW B n 61 x.2) fun q3 => pRw B n x.1 q3) = bS (bnd R3 (pW B n 61)) (pRw B n vs) ∧ ∀ q3, R3 = .inr q3 → (vs.length : Int) = y ∧ FK h = min K (vkL B n ks 0 vs) ∧ vsX B n a m ks vs room h := by
  cases W with
  | inl z => exact ⟨.inl z, [], o.1, o.2, rfl, fun q3 e => by cases e⟩
  | inr x =>
    obtain ⟨vs, q⟩ := x
    obtain ⟨o1, o2, o3, o4, o5⟩ := o
    exact ⟨.inr q, vs, o3, o2.2.2.2.2.2.2.2, rfl, fun q3 e => ⟨o1, o4, o5⟩⟩
theorem bS_a {α β : Type} {R : Int ⊕ Int} {f : Int → Int ⊕ α} {g : α → Int ⊕ β} : bS R (fun q => bS (f q) g) = bS (bS R f) g := by cases R <;> rfl
theorem vX13_row_j33 (a1 : Int) (a2 : Int) {h : AH} {B : Int → Int} {n A a m la q : Int} {ks : List Int} (hB : ∀ i, 0 ≤ i → i < n → 0 ≤ B i ∧ B i < 256) (rk : rdK B n A a ks la m h) (nb : NB B n q h ∧ tO B n q ≠ 5) (rm : (a2 = 0 ∨ a2 = 1) ∧ (a2 = 1 → m < 12)) (w1 : 0 ≤ a1 ∧ a1 ≤ 2001) : OK (gX13_row_j33 a1 a2 h) (fun h' => (rwQx B n A a la m (fun r => min (FK h) (min (vkL B n ks 0 r.1) (min (if r.1.length = ks.length then 1000000 else a1 * 8 + 4) (laK B n la r)))) ks a2 (bS (nx B n q) fun q1 => bS (pVs B n 2002 [] q1) fun x => bS (pW B n 61 x.2) fun q3 => pRw B n x.1 q3) h') ∧ (frRw a m h h')) := by
  have LA : a = 271 ∨ a = 289 := rk.2.2.1.1
  have M0 := rk.2.2.2.2.2.1.2
  have NN := rk.1.2.2
  have FH := rk.2.2.2.2.2.2.2
  unfold gX13_row_j33
  refine OK_jb (vX13_nextS (B := B) (n := n) (A := A) (q := q) (by exact rk.1) (by exact hB) (by exact nb.1) (by exact nb.2)) (fun h7 r1 => ?_)
  try dsimp only [Sum.elim_inl, Sum.elim_inr, jt2, jt3, jt4, jt5, jt6, jt7, jt8] at r1
  obtain ⟨sx1, fr1⟩ := r1
  try simp (disch := omega) only [jst_eq, jst_ne, jst_ni, jI_i, jcmp_lt, jcmp_gt, w32_id, jcpy_out, Sum.elim_inl, Sum.elim_inr, jt2, jt3, jt4, jt5, jt6, jt7, jt8] at sx1
  try simp (disch := omega) only [jst_eq, jst_ne, jst_ni, jI_i, jcmp_lt, jcmp_gt, w32_id, jcpy_out, Sum.elim_inl, Sum.elim_inr, jt2, jt3, jt4, jt5, jt6, jt7, jt8] at fr1
  have F7 : f8X h7 := f8X_f FH (fun s y => fr1 _ _ (by omega))
  have K7 : FK h7 = FK h := FK_fr (fr1 _ _ (by omega)) (fr1 _ _ (by omega))
  have RK7 : rdK B n A a ks la m h7 := rdK_g rk (fun b s y _ => fr1 b s (by omega)) F7
  refine OK_jb (vX13_row_l39 (B := B) (n := n) (A := A) (a := a) (m := m) (la := la) (ks := ks) (K := FK h) (R0 := nx B n q) _ _ _ (by exact hB) (by exact RK7) (by exact sx1) (by exact rm) (by (have := FH.2.2; omega)) (by (first | ((unfold isX4; omega)) | (first | assumption | omega | ((try dsimp only [jt2, jt3, jt4]); first | omega | (simp (disch := omega) only [jst_eq, jst_ne, jst_ni, jst_o, jI_i, jcpy_out, w32_id, jdiv_nn, jshr_k, jand_255] <;> first | done | omega | assumption)) | (intros; simp (disch := omega) only [jst_eq, jst_ne, jst_ni, jst_o, jI_i, jcpy_out, w32_id, jdiv_nn, *] <;> first | done | omega) | (intros; simp (disch := omega) only [jst_eq, jst_ne, jst_ni, jst_o, jI_i, jcpy_out, w32_id, jdiv_nn] at * <;> first | done | omega | assumption) | (intros; first | rfl | (exfalso; omega) | ((repeat' apply And.intro) <;> first | assumption | rfl | omega | trivial)))))) (fun o8 r2 => ?_)
  rcases o8 with o10 | o11
  · skip
    have r3 := r2; clear r2
    dsimp only [Sum.elim_inl, Sum.elim_inr] at r3
    try dsimp only [Sum.elim_inl, Sum.elim_inr, jt2, jt3, jt4, jt5, jt6, jt7, jt8] at r3
    obtain ⟨bz2, fr2⟩ := r3
    try simp (disch := omega) only [jst_eq, jst_ne, jst_ni, jI_i, jcmp_lt, jcmp_gt, w32_id, jcpy_out, Sum.elim_inl, Sum.elim_inr, jt2, jt3, jt4, jt5, jt6, jt7, jt8] at bz2
    try simp (disch := omega) only [jst_eq, jst_ne, jst_ni, jI_i, jcmp_lt, jcmp_gt, w32_id, jcpy_out, Sum.elim_inl, Sum.elim_inr, jt2, jt3, jt4, jt5, jt6, jt7, jt8] at fr2
    refine OK_jml ?_
    refine OK_some ?_
    try dsimp only [Sum.elim_inl, Sum.elim_inr, jt2, jt3, jt4, jt5, jt6, jt7, jt8]
    try dsimp only [Sum.elim_inl, Sum.elim_inr, jt2, jt3, jt4, jt5, jt6, jt7, jt8]
    refine ⟨?_, ?_⟩
    · (obtain ⟨z, e, b1, b2, f⟩ := bz2; rw [bS_a, e]; exact ⟨Sx_l b1 b2, f⟩) -- o11 e1.1
    · exact fun b s y1 y2 y3 y4 => (fr2 b s y1 y2).trans (fr1 b s (by omega)) -- o12 e1.2
  · skip
    have r4 := r2; clear r2
    dsimp only [Sum.elim_inl, Sum.elim_inr] at r4
    refine OK_jmr ?_
    obtain ⟨y12, h13⟩ := o11
    refine OK_jt2 ?_
    try dsimp only [Sum.elim_inl, Sum.elim_inr, jt2, jt3, jt4, jt5, jt6, jt7, jt8] at r4
    obtain ⟨ok3, y03, fr3⟩ := r4
    try simp (disch := omega) only [jst_eq, jst_ne, jst_ni, jI_i, jcmp_lt, jcmp_gt, w32_id, jcpy_out, Sum.elim_inl, Sum.elim_inr, jt2, jt3, jt4, jt5, jt6, jt7, jt8] at ok3
    try simp (disch := omega) only [jst_eq, jst_ne, jst_ni, jI_i, jcmp_lt, jcmp_gt, w32_id, jcpy_out, Sum.elim_inl, Sum.elim_inr, jt2, jt3, jt4, jt5, jt6, jt7, jt8] at y03
    try simp (disch := omega) only [jst_eq, jst_ne, jst_ni, jI_i, jcmp_lt, jcmp_gt, w32_id, jcpy_out, Sum.elim_inl, Sum.elim_inr, jt2, jt3, jt4, jt5, jt6, jt7, jt8] at fr3
    obtain ⟨R3, vs, S3, F13, WE, OV⟩ := okV_of ok3
    have RK13 : rdK B n A a ks la m h13 := rdK_g RK7 (fun b s y1 y2 => fr3 b s y1 (by omega)) F13
    have E20 : h13 441 20 = a := RK13.2.2.1.2
    have E1 : h13 a 1 = (ks.length : Int) := RK13.2.2.2.1.1
    rw [E20, E1]
    refine OK_jg (by (first | ((unfold isX4; omega)) | (first | assumption | omega | ((try dsimp only [jt2, jt3, jt4]); first | omega | (simp (disch := omega) only [jst_eq, jst_ne, jst_ni, jst_o, jI_i, jcpy_out, w32_id, jdiv_nn, jshr_k, jand_255] <;> first | done | omega | assumption)) | (intros; simp (disch := omega) only [jst_eq, jst_ne, jst_ni, jst_o, jI_i, jcpy_out, w32_id, jdiv_nn, *] <;> first | done | omega) | (intros; simp (disch := omega) only [jst_eq, jst_ne, jst_ni, jst_o, jI_i, jcpy_out, w32_id, jdiv_nn] at * <;> first | done | omega | assumption) | (intros; first | rfl | (exfalso; omega) | ((repeat' apply And.intro) <;> first | assumption | rfl | omega | trivial))))) ?_ -- o13
    refine OK_if (fun c1 => ?_) (fun c1 => ?_)
    · skip
      try simp (disch := omega) only [jst_eq, jst_ne, jst_ni, jI_i, jcmp_lt, jcmp_gt, w32_id, jcpy_out, Sum.elim_inl, Sum.elim_inr, jt2, jt3, jt4, jt5, jt6, jt7, jt8] at c1
      refine OK_mono (vX13_row_j145 (B := B) (n := n) (A := A) (a := a) (m := m) (la := la) (ks := ks) (vs := vs) (R := R3) _ (by exact hB) (by exact RK13) (by exact S3) (by exact rm)) (fun r r5 => ?_)
      try dsimp only [Sum.elim_inl, Sum.elim_inr, jt2, jt3, jt4, jt5, jt6, jt7, jt8] at r5
      obtain ⟨ok4, fr4⟩ := r5
      try simp (disch := omega) only [jst_eq, jst_ne, jst_ni, jI_i, jcmp_lt, jcmp_gt, w32_id, jcpy_out, Sum.elim_inl, Sum.elim_inr, jt2, jt3, jt4, jt5, jt6, jt7, jt8] at ok4
      try simp (disch := omega) only [jst_eq, jst_ne, jst_ni, jI_i, jcmp_lt, jcmp_gt, w32_id, jcpy_out, Sum.elim_inl, Sum.elim_inr, jt2, jt3, jt4, jt5, jt6, jt7, jt8] at fr4
      try dsimp only [Sum.elim_inl, Sum.elim_inr, jt2, jt3, jt4, jt5, jt6, jt7, jt8]
      try dsimp only [Sum.elim_inl, Sum.elim_inr, jt2, jt3, jt4, jt5, jt6, jt7, jt8]
      refine ⟨?_, ?_⟩
      · exact rwQ_of ok4 (bS_a.trans WE) (fun q3 e r er => by (have L := (OV q3 e).1; show min (FK h13) (laK B n la r) = min (FK h) (min (vkL B n ks 0 r.1) (min (if r.1.length = ks.length then 1000000 else a1 * 8 + 4) (laK B n la r))); rw [(OV q3 e).2.1, er, if_pos (show vs.length = ks.length by omega)]; have := FH.2.2; omega)) (fun q3 e z j jk q' eq => by (rw [fr4 _ _ (by omega) (by omega) (by omega)]; exact (OV q3 e).2.2 z j jk q' eq)) -- o18 e2.1
      · exact fun b s y1 y2 y3 y4 => (fr4 b s y1 y3 y4).trans ((fr3 b s y1 y2).trans (fr1 b s (by omega))) -- o19 e2.2
    · skip
      try simp (disch := omega) only [jst_eq, jst_ne, jst_ni, jI_i, jcmp_lt, jcmp_gt, w32_id, jcpy_out, Sum.elim_inl, Sum.elim_inr, jt2, jt3, jt4, jt5, jt6, jt7, jt8] at c1
      refine OK_jb (vX13_err _ _ (by exact ⟨F13.1, F13.2.1⟩) (by omega)) (fun h16 r6 => ?_)
      try dsimp only [Sum.elim_inl, Sum.elim_inr, jt2, jt3, jt4, jt5, jt6, jt7, jt8] at r6
      obtain ⟨f5, k5, fr5⟩ := r6
      try simp (disch := omega) only [jst_eq, jst_ne, jst_ni, jI_i, jcmp_lt, jcmp_gt, w32_id, jcpy_out, Sum.elim_inl, Sum.elim_inr, jt2, jt3, jt4, jt5, jt6, jt7, jt8] at f5
      try simp (disch := omega) only [jst_eq, jst_ne, jst_ni, jI_i, jcmp_lt, jcmp_gt, w32_id, jcpy_out, Sum.elim_inl, Sum.elim_inr, jt2, jt3, jt4, jt5, jt6, jt7, jt8] at k5
      try simp (disch := omega) only [jst_eq, jst_ne, jst_ni, jI_i, jcmp_lt, jcmp_gt, w32_id, jcpy_out, Sum.elim_inl, Sum.elim_inr, jt2, jt3, jt4, jt5, jt6, jt7, jt8] at fr5
      have F16 : f8X h16 := ⟨f5.1, f5.2, by rw [k5]; have := F13.2.2; omega⟩
      have RK16 : rdK B n A a ks la m h16 := rdK_g RK13 (fun b s y _ => fr5 b s (by omega)) F16
      refine OK_mono (vX13_row_j145 (B := B) (n := n) (A := A) (a := a) (m := m) (la := la) (ks := ks) (vs := vs) (R := R3) _ (by exact hB) (by exact RK16) (by exact Sx_fr S3 (fun s s0 s1 => fr5 _ _ (by omega))) (by exact rm)) (fun r r7 => ?_)
      try dsimp only [Sum.elim_inl, Sum.elim_inr, jt2, jt3, jt4, jt5, jt6, jt7, jt8] at r7
      obtain ⟨ok6, fr6⟩ := r7
      try simp (disch := omega) only [jst_eq, jst_ne, jst_ni, jI_i, jcmp_lt, jcmp_gt, w32_id, jcpy_out, Sum.elim_inl, Sum.elim_inr, jt2, jt3, jt4, jt5, jt6, jt7, jt8] at ok6
      try simp (disch := omega) only [jst_eq, jst_ne, jst_ni, jI_i, jcmp_lt, jcmp_gt, w32_id, jcpy_out, Sum.elim_inl, Sum.elim_inr, jt2, jt3, jt4, jt5, jt6, jt7, jt8] at fr6
      try dsimp only [Sum.elim_inl, Sum.elim_inr, jt2, jt3, jt4, jt5, jt6, jt7, jt8]
      try dsimp only [Sum.elim_inl, Sum.elim_inr, jt2, jt3, jt4, jt5, jt6, jt7, jt8]
      refine ⟨?_, ?_⟩
      · exact rwQ_of ok6 (bS_a.trans WE) (fun q3 e r er => by (have L := (OV q3 e).1; show min (FK h16) (laK B n la r) = min (FK h) (min (vkL B n ks 0 r.1) (min (if r.1.length = ks.length then 1000000 else a1 * 8 + 4) (laK B n la r))); rw [k5, (OV q3 e).2.1, er, if_neg (show ¬ vs.length = ks.length by omega)]; omega)) (fun q3 e z j jk q' eq => by (rw [fr6 _ _ (by omega) (by omega) (by omega), fr5 _ _ (by omega)]; exact (OV q3 e).2.2 z j jk q' eq)) -- o26 e3.1
      · exact fun b s y1 y2 y3 y4 => (fr6 b s y1 y3 y4).trans ((fr5 b s (by omega)).trans ((fr3 b s y1 y2).trans (fr1 b s (by omega)))) -- o27 e3.2
theorem rwQ_k {B : Int → Int} {n A a la m room : Int} {ks : List Int} {W : Int ⊕ (RWt × Int)} {K K' : RWt → Int} {h : AH} (e : ∀ r, K r = K' r) (o : rwQx B n A a la m K ks room W h) : rwQx B n A a la m K' ks room W h := by
  cases W with
  | inl z => exact o
  | inr x => obtain ⟨r, q⟩ := x; exact ⟨o.1, o.2.1, o.2.2.1.trans (e r), o.2.2.2⟩
theorem vX13_row_j22 (a1 : Int) (t0 : Int) {h : AH} {B : Int → Int} {n A a m la q : Int} {ks : List Int} (hB : ∀ i, 0 ≤ i → i < n → 0 ≤ B i ∧ B i < 256) (rk : rdK B n A a ks la m h) (nb : NB B n q h ∧ tO B n q ≠ 5) (rm : (t0 = 0 ∨ t0 = 1) ∧ (t0 = 1 → m < 12)) (w1 : a1 = tS B n q) : OK (gX13_row_j22 a1 t0 h) (fun h' => (rwQx B n A a la m (fun r => min (FK h) (min (if t0 = 0 then a1 * 8 + 5 else 1000000) (min (vkL B n ks 0 r.1) (min (if r.1.length = ks.length then 1000000 else a1 * 8 + 4) (laK B n la r))))) ks t0 (pRow B n q) h') ∧ (frRw a m h h')) := by
  have LA : a = 271 ∨ a = 289 := rk.2.2.1.1
  have M0 := rk.2.2.2.2.2.1.2
  have NN := rk.1.2.2
  have FH := rk.2.2.2.2.2.2.2
  have SR := tS_r (B := B) nb.1.2.2.2
  have n0 := nb.1.2.2
  unfold gX13_row_j22
  refine OK_if (fun c1 => ?_) (fun c1 => ?_)
  · skip
    try simp (disch := omega) only [jst_eq, jst_ne, jst_ni, jI_i, jcmp_lt, jcmp_gt, w32_id, jcpy_out, Sum.elim_inl, Sum.elim_inr, jt2, jt3, jt4, jt5, jt6, jt7, jt8] at c1
    refine OK_jb (vX13_err _ _ (by exact ⟨FH.1, FH.2.1⟩) (by omega)) (fun h5 r1 => ?_)
    try dsimp only [Sum.elim_inl, Sum.elim_inr, jt2, jt3, jt4, jt5, jt6, jt7, jt8] at r1
    obtain ⟨f1, k1, fr1⟩ := r1
    try simp (disch := omega) only [jst_eq, jst_ne, jst_ni, jI_i, jcmp_lt, jcmp_gt, w32_id, jcpy_out, Sum.elim_inl, Sum.elim_inr, jt2, jt3, jt4, jt5, jt6, jt7, jt8] at f1
    try simp (disch := omega) only [jst_eq, jst_ne, jst_ni, jI_i, jcmp_lt, jcmp_gt, w32_id, jcpy_out, Sum.elim_inl, Sum.elim_inr, jt2, jt3, jt4, jt5, jt6, jt7, jt8] at k1
    try simp (disch := omega) only [jst_eq, jst_ne, jst_ni, jI_i, jcmp_lt, jcmp_gt, w32_id, jcpy_out, Sum.elim_inl, Sum.elim_inr, jt2, jt3, jt4, jt5, jt6, jt7, jt8] at fr1
    have F5 : f8X h5 := ⟨f1.1, f1.2, by rw [k1]; have := FH.2.2; omega⟩
    have RK5 : rdK B n A a ks la m h5 := rdK_g rk (fun b s y _ => fr1 b s (by omega)) F5
    refine OK_mono (vX13_row_j33 (B := B) (n := n) (A := A) (a := a) (m := m) (la := la) (ks := ks) (q := q) _ _ (by exact hB) (by exact RK5) (by exact ⟨NB_fr nb.1 (fun s s0 s1 => fr1 _ _ (by omega)), nb.2⟩) (by exact rm) (by omega)) (fun r r2 => ?_)
    try dsimp only [Sum.elim_inl, Sum.elim_inr, jt2, jt3, jt4, jt5, jt6, jt7, jt8] at r2
    obtain ⟨ok2, fr2⟩ := r2
    try simp (disch := omega) only [jst_eq, jst_ne, jst_ni, jI_i, jcmp_lt, jcmp_gt, w32_id, jcpy_out, Sum.elim_inl, Sum.elim_inr, jt2, jt3, jt4, jt5, jt6, jt7, jt8] at ok2
    try simp (disch := omega) only [jst_eq, jst_ne, jst_ni, jI_i, jcmp_lt, jcmp_gt, w32_id, jcpy_out, Sum.elim_inl, Sum.elim_inr, jt2, jt3, jt4, jt5, jt6, jt7, jt8] at fr2
    try dsimp only [Sum.elim_inl, Sum.elim_inr, jt2, jt3, jt4, jt5, jt6, jt7, jt8]
    try dsimp only [Sum.elim_inl, Sum.elim_inr, jt2, jt3, jt4, jt5, jt6, jt7, jt8]
    refine ⟨?_, ?_⟩
    · exact rwQ_k (fun r => by (show min (FK h5) (min (vkL B n ks 0 r.1) (min (if r.1.length = ks.length then 1000000 else a1 * 8 + 4) (laK B n la r))) = min (FK h) (min (if t0 = 0 then a1 * 8 + 5 else 1000000) (min (vkL B n ks 0 r.1) (min (if r.1.length = ks.length then 1000000 else a1 * 8 + 4) (laK B n la r)))); rw [k1, if_pos c1]; omega)) ok2 -- o8 e1.1
    · exact fun b s y1 y2 y3 y4 => (fr2 b s y1 y2 y3 y4).trans (fr1 b s (by omega)) -- o9 e1.2
  · skip
    try simp (disch := omega) only [jst_eq, jst_ne, jst_ni, jI_i, jcmp_lt, jcmp_gt, w32_id, jcpy_out, Sum.elim_inl, Sum.elim_inr, jt2, jt3, jt4, jt5, jt6, jt7, jt8] at c1
    refine OK_mono (vX13_row_j33 (B := B) (n := n) (A := A) (a := a) (m := m) (la := la) (ks := ks) (q := q) _ _ (by exact hB) (by exact rk) (by exact nb) (by exact rm) (by omega)) (fun r r3 => ?_)
    try dsimp only [Sum.elim_inl, Sum.elim_inr, jt2, jt3, jt4, jt5, jt6, jt7, jt8] at r3
    obtain ⟨ok3, fr3⟩ := r3
    try simp (disch := omega) only [jst_eq, jst_ne, jst_ni, jI_i, jcmp_lt, jcmp_gt, w32_id, jcpy_out, Sum.elim_inl, Sum.elim_inr, jt2, jt3, jt4, jt5, jt6, jt7, jt8] at ok3
    try simp (disch := omega) only [jst_eq, jst_ne, jst_ni, jI_i, jcmp_lt, jcmp_gt, w32_id, jcpy_out, Sum.elim_inl, Sum.elim_inr, jt2, jt3, jt4, jt5, jt6, jt7, jt8] at fr3
    try dsimp only [Sum.elim_inl, Sum.elim_inr, jt2, jt3, jt4, jt5, jt6, jt7, jt8]
    try dsimp only [Sum.elim_inl, Sum.elim_inr, jt2, jt3, jt4, jt5, jt6, jt7, jt8]
    refine ⟨?_, ?_⟩
    · exact rwQ_k (fun r => by (show min (FK h) (min (vkL B n ks 0 r.1) (min (if r.1.length = ks.length then 1000000 else a1 * 8 + 4) (laK B n la r))) = min (FK h) (min (if t0 = 0 then a1 * 8 + 5 else 1000000) (min (vkL B n ks 0 r.1) (min (if r.1.length = ks.length then 1000000 else a1 * 8 + 4) (laK B n la r)))); rw [if_neg c1]; have := FH.2.2; omega)) ok3 -- o15 e2.1
    · (first | assumption | omega | ((try dsimp only [jt2, jt3, jt4]); first | omega | (simp (disch := omega) only [jst_eq, jst_ne, jst_ni, jst_o, jI_i, jcpy_out, w32_id, jdiv_nn, jshr_k, jand_255] <;> first | done | omega | assumption)) | (intros; simp (disch := omega) only [jst_eq, jst_ne, jst_ni, jst_o, jI_i, jcpy_out, w32_id, jdiv_nn, *] <;> first | done | omega) | (intros; simp (disch := omega) only [jst_eq, jst_ne, jst_ni, jst_o, jI_i, jcpy_out, w32_id, jdiv_nn] at * <;> first | done | omega | assumption) | (intros; first | rfl | (exfalso; omega) | ((repeat' apply And.intro) <;> first | assumption | rfl | omega | trivial))) -- o16 e2.2
theorem vX13_row {h : AH} {B : Int → Int} {n A a m la q : Int} {ks : List Int} (hB : ∀ i, 0 ≤ i → i < n → 0 ≤ B i ∧ B i < 256) (rk : rdK B n A a ks la m h) (nb : NB B n q h ∧ tO B n q ≠ 5) : OK (gX13_row h) (fun h' => (rwQx B n A a la m (fun r => min (FK h) (rwK B n ks la m q r)) ks (if m < 12 then 1 else 0) (pRow B n q) h') ∧ (frRw a m h h')) := by
  have LA : a = 271 ∨ a = 289 := rk.2.2.1.1
  have E20 : h 441 20 = a := rk.2.2.1.2
  have E8 := rk.2.2.2.2.2.1
  have Q3 : h 441 3 = tS B n q := nb.1.2.1.1
  unfold gX13_row
  refine OK_jlx (fun x1 ex1 => ?_)
  try simp (disch := omega) only [jst_eq, jst_ne, jst_ni, jI_i, jcmp_lt, jcmp_gt, w32_id, jcpy_out, Sum.elim_inl, Sum.elim_inr, jt2, jt3, jt4, jt5, jt6, jt7, jt8] at ex1
  refine OK_jg (by (first | ((rw [E20]; unfold isX4; omega)) | (first | assumption | omega | ((try dsimp only [jt2, jt3, jt4]); first | omega | (simp (disch := omega) only [jst_eq, jst_ne, jst_ni, jst_o, jI_i, jcpy_out, w32_id, jdiv_nn, jshr_k, jand_255] <;> first | done | omega | assumption)) | (intros; simp (disch := omega) only [jst_eq, jst_ne, jst_ni, jst_o, jI_i, jcpy_out, w32_id, jdiv_nn, *] <;> first | done | omega) | (intros; simp (disch := omega) only [jst_eq, jst_ne, jst_ni, jst_o, jI_i, jcpy_out, w32_id, jdiv_nn] at * <;> first | done | omega | assumption) | (intros; first | rfl | (exfalso; omega) | ((repeat' apply And.intro) <;> first | assumption | rfl | omega | trivial))))) ?_ -- o1
  refine OK_if (fun c1 => ?_) (fun c1 => ?_)
  · skip
    try simp (disch := omega) only [jst_eq, jst_ne, jst_ni, jI_i, jcmp_lt, jcmp_gt, w32_id, jcpy_out, Sum.elim_inl, Sum.elim_inr, jt2, jt3, jt4, jt5, jt6, jt7, jt8] at c1
    rw [E20, E8.1] at c1
    refine OK_mono (vX13_row_j22 (B := B) (n := n) (A := A) (a := a) (m := m) (la := la) (ks := ks) (q := q) _ _ (by exact hB) (by exact rk) (by exact nb) (by (first | ((rw [E20]; unfold isX4; omega)) | (first | assumption | omega | ((try dsimp only [jt2, jt3, jt4]); first | omega | (simp (disch := omega) only [jst_eq, jst_ne, jst_ni, jst_o, jI_i, jcpy_out, w32_id, jdiv_nn, jshr_k, jand_255] <;> first | done | omega | assumption)) | (intros; simp (disch := omega) only [jst_eq, jst_ne, jst_ni, jst_o, jI_i, jcpy_out, w32_id, jdiv_nn, *] <;> first | done | omega) | (intros; simp (disch := omega) only [jst_eq, jst_ne, jst_ni, jst_o, jI_i, jcpy_out, w32_id, jdiv_nn] at * <;> first | done | omega | assumption) | (intros; first | rfl | (exfalso; omega) | ((repeat' apply And.intro) <;> first | assumption | rfl | omega | trivial))))) (by omega)) (fun r r1 => ?_)
    try dsimp only [Sum.elim_inl, Sum.elim_inr, jt2, jt3, jt4, jt5, jt6, jt7, jt8] at r1
    obtain ⟨ok1, fr1⟩ := r1
    try simp (disch := omega) only [jst_eq, jst_ne, jst_ni, jI_i, jcmp_lt, jcmp_gt, w32_id, jcpy_out, Sum.elim_inl, Sum.elim_inr, jt2, jt3, jt4, jt5, jt6, jt7, jt8] at ok1
    try simp (disch := omega) only [jst_eq, jst_ne, jst_ni, jI_i, jcmp_lt, jcmp_gt, w32_id, jcpy_out, Sum.elim_inl, Sum.elim_inr, jt2, jt3, jt4, jt5, jt6, jt7, jt8] at fr1
    try dsimp only [Sum.elim_inl, Sum.elim_inr, jt2, jt3, jt4, jt5, jt6, jt7, jt8]
    try dsimp only [Sum.elim_inl, Sum.elim_inr, jt2, jt3, jt4, jt5, jt6, jt7, jt8]
    refine ⟨?_, ?_⟩
    · (rw [if_neg (show ¬ m < 12 by omega)]; exact rwQ_k (fun r => by (show min (FK h) (min (if (0 : Int) = 0 then x1 * 8 + 5 else 1000000) _) = min (FK h) (min (if 12 ≤ m then tS B n q * 8 + 5 else 1000000) _); rw [if_pos rfl, if_pos c1, ex1, Q3]; rfl)) ok1) -- o7 e1.1
    · (first | ((rw [E20]; unfold isX4; omega)) | (first | assumption | omega | ((try dsimp only [jt2, jt3, jt4]); first | omega | (simp (disch := omega) only [jst_eq, jst_ne, jst_ni, jst_o, jI_i, jcpy_out, w32_id, jdiv_nn, jshr_k, jand_255] <;> first | done | omega | assumption)) | (intros; simp (disch := omega) only [jst_eq, jst_ne, jst_ni, jst_o, jI_i, jcpy_out, w32_id, jdiv_nn, *] <;> first | done | omega) | (intros; simp (disch := omega) only [jst_eq, jst_ne, jst_ni, jst_o, jI_i, jcpy_out, w32_id, jdiv_nn] at * <;> first | done | omega | assumption) | (intros; first | rfl | (exfalso; omega) | ((repeat' apply And.intro) <;> first | assumption | rfl | omega | trivial)))) -- o8 e1.2
  · skip
    try simp (disch := omega) only [jst_eq, jst_ne, jst_ni, jI_i, jcmp_lt, jcmp_gt, w32_id, jcpy_out, Sum.elim_inl, Sum.elim_inr, jt2, jt3, jt4, jt5, jt6, jt7, jt8] at c1
    rw [E20, E8.1] at c1
    refine OK_mono (vX13_row_j22 (B := B) (n := n) (A := A) (a := a) (m := m) (la := la) (ks := ks) (q := q) _ _ (by exact hB) (by exact rk) (by exact nb) (by (first | ((rw [E20]; unfold isX4; omega)) | (first | assumption | omega | ((try dsimp only [jt2, jt3, jt4]); first | omega | (simp (disch := omega) only [jst_eq, jst_ne, jst_ni, jst_o, jI_i, jcpy_out, w32_id, jdiv_nn, jshr_k, jand_255] <;> first | done | omega | assumption)) | (intros; simp (disch := omega) only [jst_eq, jst_ne, jst_ni, jst_o, jI_i, jcpy_out, w32_id, jdiv_nn, *] <;> first | done | omega) | (intros; simp (disch := omega) only [jst_eq, jst_ne, jst_ni, jst_o, jI_i, jcpy_out, w32_id, jdiv_nn] at * <;> first | done | omega | assumption) | (intros; first | rfl | (exfalso; omega) | ((repeat' apply And.intro) <;> first | assumption | rfl | omega | trivial))))) (by omega)) (fun r r2 => ?_)
    try dsimp only [Sum.elim_inl, Sum.elim_inr, jt2, jt3, jt4, jt5, jt6, jt7, jt8] at r2
    obtain ⟨ok2, fr2⟩ := r2
    try simp (disch := omega) only [jst_eq, jst_ne, jst_ni, jI_i, jcmp_lt, jcmp_gt, w32_id, jcpy_out, Sum.elim_inl, Sum.elim_inr, jt2, jt3, jt4, jt5, jt6, jt7, jt8] at ok2
    try simp (disch := omega) only [jst_eq, jst_ne, jst_ni, jI_i, jcmp_lt, jcmp_gt, w32_id, jcpy_out, Sum.elim_inl, Sum.elim_inr, jt2, jt3, jt4, jt5, jt6, jt7, jt8] at fr2
    try dsimp only [Sum.elim_inl, Sum.elim_inr, jt2, jt3, jt4, jt5, jt6, jt7, jt8]
    try dsimp only [Sum.elim_inl, Sum.elim_inr, jt2, jt3, jt4, jt5, jt6, jt7, jt8]
    refine ⟨?_, ?_⟩
    · (rw [if_pos (show m < 12 by omega)]; exact rwQ_k (fun r => by (show min (FK h) (min (if (1 : Int) = 0 then x1 * 8 + 5 else 1000000) _) = min (FK h) (min (if 12 ≤ m then tS B n q * 8 + 5 else 1000000) _); rw [if_neg (show ¬ (1 : Int) = 0 by decide), if_neg c1, ex1, Q3]; rfl)) ok2) -- o14 e2.1
    · (first | ((rw [E20]; unfold isX4; omega)) | (first | assumption | omega | ((try dsimp only [jt2, jt3, jt4]); first | omega | (simp (disch := omega) only [jst_eq, jst_ne, jst_ni, jst_o, jI_i, jcpy_out, w32_id, jdiv_nn, jshr_k, jand_255] <;> first | done | omega | assumption)) | (intros; simp (disch := omega) only [jst_eq, jst_ne, jst_ni, jst_o, jI_i, jcpy_out, w32_id, jdiv_nn, *] <;> first | done | omega) | (intros; simp (disch := omega) only [jst_eq, jst_ne, jst_ni, jst_o, jI_i, jcpy_out, w32_id, jdiv_nn] at * <;> first | done | omega | assumption) | (intros; first | rfl | (exfalso; omega) | ((repeat' apply And.intro) <;> first | assumption | rfl | omega | trivial)))) -- o15 e2.2

