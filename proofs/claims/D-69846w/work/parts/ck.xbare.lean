/-! x: patterns that are bare; texts in order -/
/-- parameters alone, all different -/
def bareD (Q : TR) : Prop := (∀ m : Nat, (m : Int) < nk Q → (inf (kdA Q m)).1 = 0) ∧ ∀ i j : Nat, i < j → (j : Int) < nk Q → (inf (kdA Q i)).2.1 ≠ (inf (kdA Q j)).2.1
theorem jnT_par {a b : TR} {ps : PS} (p : (inf (jnT a b ps).1).1 = 0) (o : (inf a).1 = 2 → nk a = nk b) : (inf (jnT a b ps).1).2.1 = (fdP ps a b : Nat) ∧ (jnT a b ps).2.length = ps.length + (if fdP ps a b = ps.length then 1 else 0) := by
  have l := fdP_le ps a b
  unfold jnT jn1 at p ⊢
  by_cases c1 : (inf a).1 = 2 ∧ (inf b).1 = 2 ∧ (inf a).2.1 = (inf b).2.1
  · rw [if_pos c1] at p
    have q := (jnK_sh (ps := ps) (o c1.1)).2.1
    rw [q] at p
    exact absurd p (show ¬ (2 : Int) = 0 by decide)
  · rw [if_neg c1] at p ⊢
    by_cases c2 : (inf a).1 = 1 ∧ lkB a b = true
    · rw [if_pos c2] at p
      exact absurd p (show ¬ (1 : Int) = 0 by decide)
    · rw [if_neg c2]
      refine ⟨rfl, ?_⟩
      show (jnP a b ps).length = _
      unfold jnP
      by_cases y : fdP ps a b < ps.length
      · rw [if_pos y, if_neg (by omega)]; omega
      · rw [if_neg y, if_pos (by omega), len_app]
/-- bare: as many parameters as operands -/
theorem bare_iff {a b : TR} (n : nk a = nk b) (ok : ∀ m : Nat, (m : Int) < nk a → (inf (kdA a m)).1 = 2 → (inf (kdA b m)).1 = 2 → (inf (kdA a m)).2.1 = (inf (kdA b m)).2.1 → nk (kdA a m) = nk (kdA b m)) : bareD (jnK a b []).1 ↔ (((jnK a b []).2.length : Nat) : Int) = nk (jnK a b []).1 ∧ ∀ m : Nat, (m : Int) < nk (jnK a b []).1 → (inf (kdA (jnK a b []).1 m)).1 = 0 := by
  have sh := (jnK_sh (ps := []) n).1
  have kd := jnK_kd (ps := []) n
  have n0 := nk_0 a
  have par : (∀ m : Nat, (m : Int) < nk a → (inf (kdA (jnK a b []).1 m)).1 = 0) → ∀ m : Nat, (m : Int) < nk a → (inf (kdA (jnK a b []).1 m)).2.1 = (fdP (psK a b [] m) (kdA a m) (kdA b m) : Nat) ∧ (psK a b [] (m + 1)).length = (psK a b [] m).length + (if fdP (psK a b [] m) (kdA a m) (kdA b m) = (psK a b [] m).length then 1 else 0) := fun h m l => by
    have q := h m l
    rw [kd.2 m l] at q ⊢
    have z : (jnT (kdA a m) (kdA b m) (psK a b [] m)).2.length = (psK a b [] m).length + (if fdP (psK a b [] m) (kdA a m) (kdA b m) = (psK a b [] m).length then 1 else 0) ∧ (inf (jnT (kdA a m) (kdA b m) (psK a b [] m)).1).2.1 = (fdP (psK a b [] m) (kdA a m) (kdA b m) : Nat) := by
      have l2 := fdP_le (psK a b [] m) (kdA a m) (kdA b m)
      unfold jnT jn1 at q ⊢
      by_cases c1 : (inf (kdA a m)).1 = 2 ∧ (inf (kdA b m)).1 = 2 ∧ (inf (kdA a m)).2.1 = (inf (kdA b m)).2.1
      · rw [if_pos c1] at q
        have s := (jnK_sh (ps := psK a b [] m) (ok m l c1.1 c1.2.1 c1.2.2)).2.1
        rw [s] at q
        exact absurd q (show ¬ (2 : Int) = 0 by decide)
      · rw [if_neg c1] at q ⊢
        by_cases c2 : (inf (kdA a m)).1 = 1 ∧ lkB (kdA a m) (kdA b m) = true
        · rw [if_pos c2] at q
          exact absurd q (show ¬ (1 : Int) = 0 by decide)
        · rw [if_neg c2]
          refine ⟨?_, rfl⟩
          show (jnP (kdA a m) (kdA b m) (psK a b [] m)).length = _
          unfold jnP
          by_cases y : fdP (psK a b [] m) (kdA a m) (kdA b m) < (psK a b [] m).length
          · rw [if_pos y, if_neg (by omega)]; omega
          · rw [if_neg y, if_pos (by omega), len_app]
    exact ⟨z.2, z.1⟩
  have up : ∀ m : Nat, (∀ j : Nat, (j : Int) < nk a → (inf (kdA (jnK a b []).1 j)).1 = 0) → (m : Int) ≤ nk a → (psK a b [] m).length ≤ m := fun m h => by
    induction m with
    | zero => intro _; exact Nat.le_refl _
    | succ m ih =>
      intro l
      have q := (par h m (by omega)).2
      have := ih (by omega)
      rw [q]
      by_cases y : fdP (psK a b [] m) (kdA a m) (kdA b m) = (psK a b [] m).length
      · rw [if_pos y]; omega
      · rw [if_neg y]; omega
  unfold bareD
  rw [sh, kd.1]
  constructor
  · intro h
    have h1 := h.1
    refine ⟨?_, h1⟩
    have all : ∀ m : Nat, (m : Int) ≤ nk a → (psK a b [] m).length = m ∧ ∀ j : Nat, j < m → (inf (kdA (jnK a b []).1 j)).2.1 = (j : Int) := fun m => by
      induction m with
      | zero => intro _; exact ⟨rfl, fun j l => absurd l (Nat.not_lt_zero _)⟩
      | succ m ih =>
        intro l
        obtain ⟨i1, i2⟩ := ih (by omega)
        obtain ⟨p1, p2⟩ := par h1 m (by omega)
        have le := fdP_le (psK a b [] m) (kdA a m) (kdA b m)
        have e : fdP (psK a b [] m) (kdA a m) (kdA b m) = m := by
          rcases Nat.lt_or_ge (fdP (psK a b [] m) (kdA a m) (kdA b m)) m with y | y
          · have q := i2 _ y
            have d := h.2 _ m y (by omega)
            rw [q, p1] at d
            exact absurd rfl d
          · omega
        rw [e, if_pos i1.symm] at p2
        refine ⟨by omega, fun j jl => ?_⟩
        by_cases y : j = m
        · rw [y, p1, e]
        · exact i2 j (by omega)
    have q := (all (nk a).toNat (by omega)).1
    omega
  · intro h
    obtain ⟨h0, h1⟩ := h
    refine ⟨h1, ?_⟩
    have all : ∀ d m : Nat, ((m + d : Nat) : Int) = nk a → (psK a b [] m).length = m := fun d => by
      induction d with
      | zero =>
        intro m e
        rw [show (nk a).toNat = m by omega] at h0
        omega
      | succ d ih =>
        intro m e
        have q := ih (m + 1) (by omega)
        have p2 := (par h1 m (by omega)).2
        have u := up m h1 (by omega)
        by_cases y : fdP (psK a b [] m) (kdA a m) (kdA b m) = (psK a b [] m).length
        · rw [if_pos y] at p2; omega
        · rw [if_neg y] at p2; omega
    have code : ∀ m : Nat, (m : Int) < nk a → (inf (kdA (jnK a b []).1 m)).2.1 = (m : Int) := fun m l => by
      have e0 := all ((nk a).toNat - m) m (by omega)
      have e1 := all ((nk a).toNat - (m + 1)) (m + 1) (by omega)
      obtain ⟨p1, p2⟩ := par h1 m l
      by_cases y : fdP (psK a b [] m) (kdA a m) (kdA b m) = (psK a b [] m).length
      · rw [p1, y, e0]
      · rw [if_neg y] at p2; omega
    intro i j ij jl
    rw [code i (by omega), code j jl]
    omega
/-- texts in order -/
def ltx : List Int → List Int → Prop
  | _, [] => False
  | [], _ :: _ => True
  | a :: l, b :: m => a < b ∨ (a = b ∧ ltx l m)
/-- texts as they are compared: the first place where they differ -/
theorem ltx_at : ∀ {l m : List Int} {k : Nat}, (∀ i : Nat, i < k → l.getD i 0 = m.getD i 0) → k ≤ l.length → k ≤ m.length → (k = l.length ∨ k = m.length ∨ l.getD k 0 ≠ m.getD k 0) → (ltx l m ↔ k < m.length ∧ (k = l.length ∨ l.getD k 0 < m.getD k 0))
  | [], [], k, _, a, b, _ => ⟨fun y => y.elim, fun y => absurd y.1 (by have e : ([] : List Int).length = 0 := rfl; omega)⟩
  | a :: l, [], k, _, _, b, _ => ⟨fun y => y.elim, fun y => absurd y.1 (by have e : ([] : List Int).length = 0 := rfl; omega)⟩
  | [], b :: m, k, _, a, _, _ => by
    have e : ([] : List Int).length = 0 := rfl
    have e2 : (b :: m).length = m.length + 1 := rfl
    exact ⟨fun _ => ⟨by omega, .inl (by omega)⟩, fun _ => trivial⟩
  | a :: l, b :: m, 0, _, _, _, c => by
    have c2 : a ≠ b := by
      rcases c with y | y | y
      · have e2 : (a :: l).length = l.length + 1 := rfl; omega
      · have e2 : (b :: m).length = m.length + 1 := rfl; omega
      · exact y
    exact ⟨fun y => ⟨Nat.succ_pos _, .inr (by rcases (y : a < b ∨ (a = b ∧ ltx l m)) with z | z; { exact z }; { exact absurd z.1 c2 })⟩, fun y => .inl (by rcases y.2 with z | z; { have e2 : (a :: l).length = l.length + 1 := rfl; omega }; { exact z })⟩
  | a :: l, b :: m, k + 1, h, la, lb, c => by
    have e2 : (a :: l).length = l.length + 1 := rfl
    have e3 : (b :: m).length = m.length + 1 := rfl
    have ab : a = b := h 0 (Nat.succ_pos _)
    have ih := ltx_at (l := l) (m := m) (k := k) (fun i il => h (i + 1) (by omega)) (by omega) (by omega) (by rcases c with y | y | y; { exact .inl (by omega) }; { exact .inr (.inl (by omega)) }; { exact .inr (.inr y) })
    show (a < b ∨ (a = b ∧ ltx l m)) ↔ k + 1 < m.length + 1 ∧ (k + 1 = l.length + 1 ∨ l.getD k 0 < m.getD k 0)
    constructor
    · intro y
      rcases y with y | y
      · omega
      · have z := ih.mp y.2; exact ⟨by omega, by rcases z.2 with w | w; { exact .inl (by omega) }; { exact .inr w }⟩
    · intro y
      exact .inr ⟨ab, ih.mpr ⟨by omega, by rcases y.2 with w | w; { exact .inl (by omega) }; { exact .inr w }⟩⟩
theorem vX7_isBare_l4 (i1 : Int) (a20 : Int) (a30 : Int) {h : AH} {Q : TR} (cc : capT h 357 32) (tp : trX h 357 0 32 Q i1 0) (pc : prC 2 Q) (z : a20 = 0 ∧ a30 = 0) : OK (gX7_isBare_l4 i1 a20 a30 h) (Sum.elim (fun _ => ¬ bareD Q) (fun _ => bareD Q)) := by
  unfold gX7_isBare_l4
  refine OK_jit (I := (fun (s : Int × Int) => jt2 s fun a2 a3 => (0 ≤ a3 ∧ a3 ≤ 3) ∧ (∀ m : Nat, (m : Int) < a3 → (m : Int) < nk Q → (inf (kdA Q m)).1 = 0) ∧ (∀ i j : Nat, i < j → (j : Int) < a3 → (j : Int) < nk Q → (inf (kdA Q i)).2.1 ≠ (inf (kdA Q j)).2.1) ∧ ((a2 = 0 ∨ a2 = 1 ∨ a2 = 2 ∨ a2 = 3) ∧ ((a2 = 1 ∨ a2 = 3) ↔ ∃ m : Nat, (m : Int) < a3 ∧ (m : Int) < nk Q ∧ (inf (kdA Q m)).2.1 = 0) ∧ ((a2 = 2 ∨ a2 = 3) ↔ ∃ m : Nat, (m : Int) < a3 ∧ (m : Int) < nk Q ∧ (inf (kdA Q m)).2.1 = 1)))) (m := (fun (s : Int × Int) => jt2 s fun a2 a3 => (3 - a3).toNat)) ?_ ?_
  · intro s hs
    obtain ⟨a2, a3⟩ := s
    dsimp only [Sum.elim_inl, Sum.elim_inr, jt2, jt3, jt4, jt5, jt6, jt7, jt8] at hs
    obtain ⟨q0, q1, q2, q3⟩ := hs
    unfold gX7_isBare_b4
    refine OK_jt2 ?_
    have ea : ((a3.toNat : Nat) : Int) = a3 := by omega
    have no := trX_no tp a3 q0.1
    have n3 := (trX_nd tp).2.2.2.2.2 (Int.le_refl 0) (by decide)
    have nd := trX_nd tp
    refine OK_if (fun c1 => ?_) (fun c1 => ?_)
    · skip
      try simp (disch := omega) only [jst_eq, jst_ne, jst_ni, jI_i, jcmp_lt, jcmp_gt, w32_id, jcpy_out, Sum.elim_inl, Sum.elim_inr, jt2, jt3, jt4, jt5, jt6, jt7, jt8] at c1
      refine OK_ir ?_
      exact ⟨fun m l => q1 m (by omega) l, fun i j ij l => q2 i j ij (by omega) l⟩ -- o1 e1
    · skip
      try simp (disch := omega) only [jst_eq, jst_ne, jst_ni, jI_i, jcmp_lt, jcmp_gt, w32_id, jcpy_out, Sum.elim_inl, Sum.elim_inr, jt2, jt3, jt4, jt5, jt6, jt7, jt8] at c1
      have K0 : ¬ a3 < nk Q → h (357 + 5) (3 * i1 + a3) = -1 := fun y => no (by omega) (by omega)
      have K1 : a3 < nk Q → trX h 357 0 32 (kdA Q a3.toNat) (h (357 + 5) (3 * i1 + a3)) 0 := fun y => by { have q := trX_kd a3.toNat tp (by omega); rw [ea, Int.zero_add] at q; exact q }
      refine OK_jb (vX3_part (M := 32) _ _ _ (by (first | assumption | omega | ((try dsimp only [jt2, jt3, jt4]); first | omega | (simp (disch := omega) only [jst_eq, jst_ne, jst_ni, jst_o, jI_i, jcpy_out, w32_id, jdiv_nn, jshr_k, jand_255] <;> first | done | omega | assumption)) | (intros; simp (disch := omega) only [jst_eq, jst_ne, jst_ni, jst_o, jI_i, jcpy_out, w32_id, jdiv_nn, *] <;> first | done | omega) | (intros; simp (disch := omega) only [jst_eq, jst_ne, jst_ni, jst_o, jI_i, jcpy_out, w32_id, jdiv_nn] at * <;> first | done | omega | assumption) | (intros; first | rfl | (exfalso; omega) | ((repeat' apply And.intro) <;> first | assumption | rfl | omega | trivial)))) (by (first | assumption | omega | ((try dsimp only [jt2, jt3, jt4]); first | omega | (simp (disch := omega) only [jst_eq, jst_ne, jst_ni, jst_o, jI_i, jcpy_out, w32_id, jdiv_nn, jshr_k, jand_255] <;> first | done | omega | assumption)) | (intros; simp (disch := omega) only [jst_eq, jst_ne, jst_ni, jst_o, jI_i, jcpy_out, w32_id, jdiv_nn, *] <;> first | done | omega) | (intros; simp (disch := omega) only [jst_eq, jst_ne, jst_ni, jst_o, jI_i, jcpy_out, w32_id, jdiv_nn] at * <;> first | done | omega | assumption) | (intros; first | rfl | (exfalso; omega) | ((repeat' apply And.intro) <;> first | assumption | rfl | omega | trivial))))) (fun v7 r1 => ?_)
      try dsimp only [Sum.elim_inl, Sum.elim_inr, jt2, jt3, jt4, jt5, jt6, jt7, jt8] at r1
      have v1 := r1
      clear r1
      try simp (disch := omega) only [jst_eq, jst_ne, jst_ni, jI_i, jcmp_lt, jcmp_gt, w32_id, jcpy_out, Sum.elim_inl, Sum.elim_inr, jt2, jt3, jt4, jt5, jt6, jt7, jt8] at v1
      rw [if_neg (by omega)] at v1
      refine OK_if (fun c2 => ?_) (fun c2 => ?_)
      · skip
        try simp (disch := omega) only [jst_eq, jst_ne, jst_ni, jI_i, jcmp_lt, jcmp_gt, w32_id, jcpy_out, Sum.elim_inl, Sum.elim_inr, jt2, jt3, jt4, jt5, jt6, jt7, jt8] at c2
        have lk : a3 < nk Q := Classical.byContradiction fun y => by { have := K0 y; omega }
        have kn := trX_nd (K1 lk)
        rw [← v1] at kn
        have S1 : h 358 v7 = (inf (kdA Q a3.toNat)).1 := kn.2.2.1
        have S2 : h 359 v7 = (inf (kdA Q a3.toNat)).2.1 := kn.2.2.2.1
        refine OK_jg (by (first | assumption | omega | ((try dsimp only [jt2, jt3, jt4]); first | omega | (simp (disch := omega) only [jst_eq, jst_ne, jst_ni, jst_o, jI_i, jcpy_out, w32_id, jdiv_nn, jshr_k, jand_255] <;> first | done | omega | assumption)) | (intros; simp (disch := omega) only [jst_eq, jst_ne, jst_ni, jst_o, jI_i, jcpy_out, w32_id, jdiv_nn, *] <;> first | done | omega) | (intros; simp (disch := omega) only [jst_eq, jst_ne, jst_ni, jst_o, jI_i, jcpy_out, w32_id, jdiv_nn] at * <;> first | done | omega | assumption) | (intros; first | rfl | (exfalso; omega) | ((repeat' apply And.intro) <;> first | assumption | rfl | omega | trivial)))) ?_ -- o4
        refine OK_if (fun c3 => ?_) (fun c3 => ?_)
        · skip
          try simp (disch := omega) only [jst_eq, jst_ne, jst_ni, jI_i, jcmp_lt, jcmp_gt, w32_id, jcpy_out, Sum.elim_inl, Sum.elim_inr, jt2, jt3, jt4, jt5, jt6, jt7, jt8] at c3
          have P0 : (inf (kdA Q a3.toNat)).1 = 0 := by omega
          have PC := prC_nd (prC_kd a3.toNat pc (by omega)) P0
          obtain ⟨cd, ecd⟩ : ∃ c, c = (inf (kdA Q a3.toNat)).2.1 := ⟨_, rfl⟩
          rw [← ecd] at S2 PC
          rw [S2]
          refine OK_if (fun c4 => ?_) (fun c4 => ?_)
          · skip
            try simp (disch := omega) only [jst_eq, jst_ne, jst_ni, jI_i, jcmp_lt, jcmp_gt, w32_id, jcpy_out, Sum.elim_inl, Sum.elim_inr, jt2, jt3, jt4, jt5, jt6, jt7, jt8] at c4
            have DUP : ∃ m : Nat, (m : Int) < a3 ∧ (m : Int) < nk Q ∧ (inf (kdA Q m)).2.1 = cd := by { rw [S2] at c4; rcases (show cd = 0 ∨ cd = 1 by omega) with e | e; { rw [e] at c4 ⊢; exact q3.2.1.mp (by rcases q3.1 with y | y | y | y <;> rw [y] at c4 <;> first | exact .inl y | exact .inr y | exact absurd c4 (by decide)) }; { rw [e] at c4 ⊢; exact q3.2.2.mp (by rcases q3.1 with y | y | y | y <;> rw [y] at c4 <;> first | exact .inl y | exact .inr y | exact absurd c4 (by decide)) } }
            refine OK_ir ?_
            (intro y; obtain ⟨m, m1, m2, m3⟩ := DUP; exact y.2 m a3.toNat (by omega) (by omega) (by rw [m3, ecd])) -- o5 e2
          · skip
            try simp (disch := omega) only [jst_eq, jst_ne, jst_ni, jI_i, jcmp_lt, jcmp_gt, w32_id, jcpy_out, Sum.elim_inl, Sum.elim_inr, jt2, jt3, jt4, jt5, jt6, jt7, jt8] at c4
            have NDUP : ¬ ∃ m : Nat, (m : Int) < a3 ∧ (m : Int) < nk Q ∧ (inf (kdA Q m)).2.1 = cd := fun w => by { apply c4; rw [S2]; rcases (show cd = 0 ∨ cd = 1 by omega) with e | e; { rw [e] at w ⊢; rcases q3.2.1.mpr w with y | y <;> rw [y] <;> decide }; { rw [e] at w ⊢; rcases q3.2.2.mpr w with y | y <;> rw [y] <;> decide } }
            refine OK_jlx (fun x11 ex11 => ?_)
            try simp (disch := omega) only [jst_eq, jst_ne, jst_ni, jI_i, jcmp_lt, jcmp_gt, w32_id, jcpy_out, Sum.elim_inl, Sum.elim_inr, jt2, jt3, jt4, jt5, jt6, jt7, jt8] at ex11
            unfold gX7_isBare_j76_4
            refine OK_jlx (fun x12 ex12 => ?_)
            try simp (disch := omega) only [jst_eq, jst_ne, jst_ni, jI_i, jcmp_lt, jcmp_gt, w32_id, jcpy_out, Sum.elim_inl, Sum.elim_inr, jt2, jt3, jt4, jt5, jt6, jt7, jt8] at ex12
            refine OK_il ?_ ?_
            · try dsimp only [Sum.elim_inl, Sum.elim_inr, jt2, jt3, jt4, jt5, jt6, jt7, jt8]
              refine ⟨?_, ?_, ?_, ?_⟩
              · (first | assumption | omega | ((try dsimp only [jt2, jt3, jt4]); first | omega | (simp (disch := omega) only [jst_eq, jst_ne, jst_ni, jst_o, jI_i, jcpy_out, w32_id, jdiv_nn, jshr_k, jand_255] <;> first | done | omega | assumption)) | (intros; simp (disch := omega) only [jst_eq, jst_ne, jst_ni, jst_o, jI_i, jcpy_out, w32_id, jdiv_nn, *] <;> first | done | omega) | (intros; simp (disch := omega) only [jst_eq, jst_ne, jst_ni, jst_o, jI_i, jcpy_out, w32_id, jdiv_nn] at * <;> first | done | omega | assumption) | (intros; first | rfl | (exfalso; omega) | ((repeat' apply And.intro) <;> first | assumption | rfl | omega | trivial))) -- o6 e3i.1
              · (intro m ml mn; rw [ex12] at ml; (try rw [w32_id (by omega) (by omega)] at ml); by_cases g : (m : Int) = a3; { have gm : m = a3.toNat := (by omega); rw [gm]; exact P0 }; { exact q1 m (by omega) mn }) -- o7 e3i.2
              · (intro i j ij jl jn; rw [ex12] at jl; (try rw [w32_id (by omega) (by omega)] at jl); by_cases g : (j : Int) = a3; { have gm : j = a3.toNat := (by omega); rw [gm, ← ecd]; exact fun w => NDUP ⟨i, by omega, by omega, w⟩ }; { exact q2 i j ij (by omega) jn }) -- o8 e3i.3
              · (rw [ex12]; (try rw [w32_id (by omega) (by omega)]); rw [ex11]; have ST : ∀ c : Int, (∃ m : Nat, (m : Int) < a3 + 1 ∧ (m : Int) < nk Q ∧ (inf (kdA Q m)).2.1 = c) ↔ c = cd ∨ ∃ m : Nat, (m : Int) < a3 ∧ (m : Int) < nk Q ∧ (inf (kdA Q m)).2.1 = c := (fun c => ⟨fun ⟨m, m1, m2, m3⟩ => by (by_cases g : (m : Int) = a3; { have gm : m = a3.toNat := (by omega); rw [gm, ← ecd] at m3; exact .inl m3.symm }; { exact .inr ⟨m, by omega, m2, m3⟩ }), fun y => by (rcases y with y | ⟨m, m1, m2, m3⟩; { exact ⟨a3.toNat, by omega, by omega, by rw [← ecd]; exact y.symm⟩ }; { exact ⟨m, by omega, m2, m3⟩ })⟩); rw [ST 0, ST 1, ← q3.2.1, ← q3.2.2]; rw [S2]; rcases (show cd = 0 ∨ cd = 1 by omega) with e | e <;> rw [e] <;> rcases q3.1 with y | y | y | y <;> rw [y] <;> decide) -- o9 e3i.4
            · (first | assumption | omega | ((try dsimp only [jt2, jt3, jt4]); first | omega | (simp (disch := omega) only [jst_eq, jst_ne, jst_ni, jst_o, jI_i, jcpy_out, w32_id, jdiv_nn, jshr_k, jand_255] <;> first | done | omega | assumption)) | (intros; simp (disch := omega) only [jst_eq, jst_ne, jst_ni, jst_o, jI_i, jcpy_out, w32_id, jdiv_nn, *] <;> first | done | omega) | (intros; simp (disch := omega) only [jst_eq, jst_ne, jst_ni, jst_o, jI_i, jcpy_out, w32_id, jdiv_nn] at * <;> first | done | omega | assumption) | (intros; first | rfl | (exfalso; omega) | ((repeat' apply And.intro) <;> first | assumption | rfl | omega | trivial))) -- o10 e3m
        · skip
          try simp (disch := omega) only [jst_eq, jst_ne, jst_ni, jI_i, jcmp_lt, jcmp_gt, w32_id, jcpy_out, Sum.elim_inl, Sum.elim_inr, jt2, jt3, jt4, jt5, jt6, jt7, jt8] at c3
          refine OK_ir ?_
          (intro y; exact c3 (by rw [S1]; exact y.1 a3.toNat (by omega))) -- o11 e4
      · skip
        try simp (disch := omega) only [jst_eq, jst_ne, jst_ni, jI_i, jcmp_lt, jcmp_gt, w32_id, jcpy_out, Sum.elim_inl, Sum.elim_inr, jt2, jt3, jt4, jt5, jt6, jt7, jt8] at c2
        have lk : ¬ a3 < nk Q := fun y => by { have q := (trX_nd (K1 y)).1; omega }
        unfold gX7_isBare_j76_4
        refine OK_jlx (fun x12 ex12 => ?_)
        try simp (disch := omega) only [jst_eq, jst_ne, jst_ni, jI_i, jcmp_lt, jcmp_gt, w32_id, jcpy_out, Sum.elim_inl, Sum.elim_inr, jt2, jt3, jt4, jt5, jt6, jt7, jt8] at ex12
        refine OK_il ?_ ?_
        · try dsimp only [Sum.elim_inl, Sum.elim_inr, jt2, jt3, jt4, jt5, jt6, jt7, jt8]
          refine ⟨?_, ?_, ?_, ?_⟩
          · (first | assumption | omega | ((try dsimp only [jt2, jt3, jt4]); first | omega | (simp (disch := omega) only [jst_eq, jst_ne, jst_ni, jst_o, jI_i, jcpy_out, w32_id, jdiv_nn, jshr_k, jand_255] <;> first | done | omega | assumption)) | (intros; simp (disch := omega) only [jst_eq, jst_ne, jst_ni, jst_o, jI_i, jcpy_out, w32_id, jdiv_nn, *] <;> first | done | omega) | (intros; simp (disch := omega) only [jst_eq, jst_ne, jst_ni, jst_o, jI_i, jcpy_out, w32_id, jdiv_nn] at * <;> first | done | omega | assumption) | (intros; first | rfl | (exfalso; omega) | ((repeat' apply And.intro) <;> first | assumption | rfl | omega | trivial))) -- o12 e5i.1
          · (intro m ml mn; rw [ex12] at ml; (try rw [w32_id (by omega) (by omega)] at ml); exact q1 m (by omega) mn) -- o13 e5i.2
          · (intro i j ij jl jn; rw [ex12] at jl; (try rw [w32_id (by omega) (by omega)] at jl); exact q2 i j ij (by omega) jn) -- o14 e5i.3
          · (rw [ex12]; (try rw [w32_id (by omega) (by omega)]); have ST : ∀ c : Int, (∃ m : Nat, (m : Int) < a3 + 1 ∧ (m : Int) < nk Q ∧ (inf (kdA Q m)).2.1 = c) ↔ ∃ m : Nat, (m : Int) < a3 ∧ (m : Int) < nk Q ∧ (inf (kdA Q m)).2.1 = c := (fun c => ⟨fun ⟨m, m1, m2, m3⟩ => ⟨m, by omega, m2, m3⟩, fun ⟨m, m1, m2, m3⟩ => ⟨m, by omega, m2, m3⟩⟩); rw [ST 0, ST 1]; exact q3) -- o15 e5i.4
        · (first | assumption | omega | ((try dsimp only [jt2, jt3, jt4]); first | omega | (simp (disch := omega) only [jst_eq, jst_ne, jst_ni, jst_o, jI_i, jcpy_out, w32_id, jdiv_nn, jshr_k, jand_255] <;> first | done | omega | assumption)) | (intros; simp (disch := omega) only [jst_eq, jst_ne, jst_ni, jst_o, jI_i, jcpy_out, w32_id, jdiv_nn, *] <;> first | done | omega) | (intros; simp (disch := omega) only [jst_eq, jst_ne, jst_ni, jst_o, jI_i, jcpy_out, w32_id, jdiv_nn] at * <;> first | done | omega | assumption) | (intros; first | rfl | (exfalso; omega) | ((repeat' apply And.intro) <;> first | assumption | rfl | omega | trivial))) -- o16 e5m
  · try dsimp only [Sum.elim_inl, Sum.elim_inr, jt2, jt3, jt4, jt5, jt6, jt7, jt8]
    refine ⟨?_, ?_, ?_, ?_⟩
    · (first | assumption | omega | ((try dsimp only [jt2, jt3, jt4]); first | omega | (simp (disch := omega) only [jst_eq, jst_ne, jst_ni, jst_o, jI_i, jcpy_out, w32_id, jdiv_nn, jshr_k, jand_255] <;> first | done | omega | assumption)) | (intros; simp (disch := omega) only [jst_eq, jst_ne, jst_ni, jst_o, jI_i, jcpy_out, w32_id, jdiv_nn, *] <;> first | done | omega) | (intros; simp (disch := omega) only [jst_eq, jst_ne, jst_ni, jst_o, jI_i, jcpy_out, w32_id, jdiv_nn] at * <;> first | done | omega | assumption) | (intros; first | rfl | (exfalso; omega) | ((repeat' apply And.intro) <;> first | assumption | rfl | omega | trivial))) -- o17 init.1
    · (intro m ml; omega) -- o18 init.2
    · (intro i j ij jl; omega) -- o19 init.3
    · (rw [z.1]; exact ⟨.inl rfl, ⟨fun y => by omega, fun ⟨m, m1, _⟩ => by omega⟩, ⟨fun y => by omega, fun ⟨m, m1, _⟩ => by omega⟩⟩) -- o20 init.4
theorem vX7_isBare (a1 : Int) {h : AH} {Q : TR} (cc : capT h 357 32) (tp : trX h 357 0 32 Q a1 0) (pc : prC 2 Q) : OK (gX7_isBare a1 h) (fun v => (v = 1 ∧ bareD Q) ∨ (v = 0 ∧ ¬ bareD Q)) := by
  unfold gX7_isBare
  refine OK_jb (vX7_isBare_l4 (Q := Q) _ _ _ (by (first | assumption | omega | ((try dsimp only [jt2, jt3, jt4]); first | omega | (simp (disch := omega) only [jst_eq, jst_ne, jst_ni, jst_o, jI_i, jcpy_out, w32_id, jdiv_nn, jshr_k, jand_255] <;> first | done | omega | assumption)) | (intros; simp (disch := omega) only [jst_eq, jst_ne, jst_ni, jst_o, jI_i, jcpy_out, w32_id, jdiv_nn, *] <;> first | done | omega) | (intros; simp (disch := omega) only [jst_eq, jst_ne, jst_ni, jst_o, jI_i, jcpy_out, w32_id, jdiv_nn] at * <;> first | done | omega | assumption) | (intros; first | rfl | (exfalso; omega) | ((repeat' apply And.intro) <;> first | assumption | rfl | omega | trivial)))) (by (first | assumption | omega | ((try dsimp only [jt2, jt3, jt4]); first | omega | (simp (disch := omega) only [jst_eq, jst_ne, jst_ni, jst_o, jI_i, jcpy_out, w32_id, jdiv_nn, jshr_k, jand_255] <;> first | done | omega | assumption)) | (intros; simp (disch := omega) only [jst_eq, jst_ne, jst_ni, jst_o, jI_i, jcpy_out, w32_id, jdiv_nn, *] <;> first | done | omega) | (intros; simp (disch := omega) only [jst_eq, jst_ne, jst_ni, jst_o, jI_i, jcpy_out, w32_id, jdiv_nn] at * <;> first | done | omega | assumption) | (intros; first | rfl | (exfalso; omega) | ((repeat' apply And.intro) <;> first | assumption | rfl | omega | trivial)))) (by (first | assumption | omega | ((try dsimp only [jt2, jt3, jt4]); first | omega | (simp (disch := omega) only [jst_eq, jst_ne, jst_ni, jst_o, jI_i, jcpy_out, w32_id, jdiv_nn, jshr_k, jand_255] <;> first | done | omega | assumption)) | (intros; simp (disch := omega) only [jst_eq, jst_ne, jst_ni, jst_o, jI_i, jcpy_out, w32_id, jdiv_nn, *] <;> first | done | omega) | (intros; simp (disch := omega) only [jst_eq, jst_ne, jst_ni, jst_o, jI_i, jcpy_out, w32_id, jdiv_nn] at * <;> first | done | omega | assumption) | (intros; first | rfl | (exfalso; omega) | ((repeat' apply And.intro) <;> first | assumption | rfl | omega | trivial)))) (by (first | assumption | omega | ((try dsimp only [jt2, jt3, jt4]); first | omega | (simp (disch := omega) only [jst_eq, jst_ne, jst_ni, jst_o, jI_i, jcpy_out, w32_id, jdiv_nn, jshr_k, jand_255] <;> first | done | omega | assumption)) | (intros; simp (disch := omega) only [jst_eq, jst_ne, jst_ni, jst_o, jI_i, jcpy_out, w32_id, jdiv_nn, *] <;> first | done | omega) | (intros; simp (disch := omega) only [jst_eq, jst_ne, jst_ni, jst_o, jI_i, jcpy_out, w32_id, jdiv_nn] at * <;> first | done | omega | assumption) | (intros; first | rfl | (exfalso; omega) | ((repeat' apply And.intro) <;> first | assumption | rfl | omega | trivial))))) (fun o1 r1 => ?_)
  rcases o1 with o3 | o4
  · skip
    have r2 := r1; clear r1
    dsimp only [Sum.elim_inl, Sum.elim_inr] at r2
    try dsimp only [Sum.elim_inl, Sum.elim_inr, jt2, jt3, jt4, jt5, jt6, jt7, jt8] at r2
    have no1 := r2
    clear r2
    try simp (disch := omega) only [jst_eq, jst_ne, jst_ni, jI_i, jcmp_lt, jcmp_gt, w32_id, jcpy_out, Sum.elim_inl, Sum.elim_inr, jt2, jt3, jt4, jt5, jt6, jt7, jt8] at no1
    refine OK_jml ?_
    refine OK_some ?_
    try dsimp only [Sum.elim_inl, Sum.elim_inr, jt2, jt3, jt4, jt5, jt6, jt7, jt8]
    exact .inr ⟨rfl, no1⟩ -- o5 e1
  · skip
    have r3 := r1; clear r1
    dsimp only [Sum.elim_inl, Sum.elim_inr] at r3
    try dsimp only [Sum.elim_inl, Sum.elim_inr, jt2, jt3, jt4, jt5, jt6, jt7, jt8] at r3
    have ye2 := r3
    clear r3
    try simp (disch := omega) only [jst_eq, jst_ne, jst_ni, jI_i, jcmp_lt, jcmp_gt, w32_id, jcpy_out, Sum.elim_inl, Sum.elim_inr, jt2, jt3, jt4, jt5, jt6, jt7, jt8] at ye2
    refine OK_jmr ?_
    refine OK_some ?_
    try dsimp only [Sum.elim_inl, Sum.elim_inr, jt2, jt3, jt4, jt5, jt6, jt7, jt8]
    exact .inl ⟨rfl, ye2⟩ -- o6 e2
theorem vX6_isBefore_l2 (a20 : Int) {h : AH} {l m : List Int} (tl : h 369 1 = (l.length : Nat) ∧ l.length ≤ 400 ∧ ∀ i : Nat, i < l.length → h 370 i = l.getD i 0) (tm : h 371 1 = (m.length : Nat) ∧ m.length ≤ 400 ∧ ∀ i : Nat, i < m.length → h 372 i = m.getD i 0) (z : a20 = 0) : OK (gX6_isBefore_l2 a20 h) (fun v => (0 ≤ v ∧ v ≤ (l.length : Nat) ∧ v ≤ (m.length : Nat)) ∧ (∀ i : Nat, (i : Int) < v → l.getD i 0 = m.getD i 0) ∧ (v = (l.length : Nat) ∨ v = (m.length : Nat) ∨ l.getD v.toNat 0 ≠ m.getD v.toNat 0)) := by
  unfold gX6_isBefore_l2
  refine OK_jit (I := (fun (a2 : Int) => (0 ≤ a2 ∧ a2 ≤ (l.length : Nat) ∧ a2 ≤ (m.length : Nat)) ∧ (∀ i : Nat, (i : Int) < a2 → l.getD i 0 = m.getD i 0))) (m := (fun (a2 : Int) => ((l.length : Nat) - a2).toNat)) ?_ ?_
  · intro a2 hs
    try dsimp only at hs
    obtain ⟨q0, q1⟩ := hs
    unfold gX6_isBefore_b2
    have ea : ((a2.toNat : Nat) : Int) = a2 := by omega
    have e1 := tl.1
    have e2 := tm.1
    have l4 := tl.2.1
    refine OK_if (fun c1 => ?_) (fun c1 => ?_)
    · skip
      try simp (disch := omega) only [jst_eq, jst_ne, jst_ni, jI_i, jcmp_lt, jcmp_gt, w32_id, jcpy_out, Sum.elim_inl, Sum.elim_inr, jt2, jt3, jt4, jt5, jt6, jt7, jt8] at c1
      refine OK_ir ?_
      exact ⟨⟨q0.1, q0.2.1, q0.2.2⟩, q1, .inl (by omega)⟩ -- o1 e1
    · skip
      try simp (disch := omega) only [jst_eq, jst_ne, jst_ni, jI_i, jcmp_lt, jcmp_gt, w32_id, jcpy_out, Sum.elim_inl, Sum.elim_inr, jt2, jt3, jt4, jt5, jt6, jt7, jt8] at c1
      refine OK_if (fun c2 => ?_) (fun c2 => ?_)
      · skip
        try simp (disch := omega) only [jst_eq, jst_ne, jst_ni, jI_i, jcmp_lt, jcmp_gt, w32_id, jcpy_out, Sum.elim_inl, Sum.elim_inr, jt2, jt3, jt4, jt5, jt6, jt7, jt8] at c2
        refine OK_ir ?_
        exact ⟨⟨q0.1, q0.2.1, q0.2.2⟩, q1, .inr (.inl (by omega))⟩ -- o2 e2
      · skip
        try simp (disch := omega) only [jst_eq, jst_ne, jst_ni, jI_i, jcmp_lt, jcmp_gt, w32_id, jcpy_out, Sum.elim_inl, Sum.elim_inr, jt2, jt3, jt4, jt5, jt6, jt7, jt8] at c2
        have A := tl.2.2 a2.toNat (by omega)
        have B := tm.2.2 a2.toNat (by omega)
        rw [ea] at A B
        refine OK_jg (by (first | assumption | omega | ((try dsimp only [jt2, jt3, jt4]); first | omega | (simp (disch := omega) only [jst_eq, jst_ne, jst_ni, jst_o, jI_i, jcpy_out, w32_id, jdiv_nn, jshr_k, jand_255] <;> first | done | omega | assumption)) | (intros; simp (disch := omega) only [jst_eq, jst_ne, jst_ni, jst_o, jI_i, jcpy_out, w32_id, jdiv_nn, *] <;> first | done | omega) | (intros; simp (disch := omega) only [jst_eq, jst_ne, jst_ni, jst_o, jI_i, jcpy_out, w32_id, jdiv_nn] at * <;> first | done | omega | assumption) | (intros; first | rfl | (exfalso; omega) | ((repeat' apply And.intro) <;> first | assumption | rfl | omega | trivial)))) ?_ -- o3
        refine OK_if (fun c3 => ?_) (fun c3 => ?_)
        · skip
          try simp (disch := omega) only [jst_eq, jst_ne, jst_ni, jI_i, jcmp_lt, jcmp_gt, w32_id, jcpy_out, Sum.elim_inl, Sum.elim_inr, jt2, jt3, jt4, jt5, jt6, jt7, jt8] at c3
          refine OK_jlx (fun x10 ex10 => ?_)
          try simp (disch := omega) only [jst_eq, jst_ne, jst_ni, jI_i, jcmp_lt, jcmp_gt, w32_id, jcpy_out, Sum.elim_inl, Sum.elim_inr, jt2, jt3, jt4, jt5, jt6, jt7, jt8] at ex10
          refine OK_il ?_ ?_
          · try dsimp only [Sum.elim_inl, Sum.elim_inr, jt2, jt3, jt4, jt5, jt6, jt7, jt8]
            refine ⟨?_, ?_⟩
            · (first | assumption | omega | ((try dsimp only [jt2, jt3, jt4]); first | omega | (simp (disch := omega) only [jst_eq, jst_ne, jst_ni, jst_o, jI_i, jcpy_out, w32_id, jdiv_nn, jshr_k, jand_255] <;> first | done | omega | assumption)) | (intros; simp (disch := omega) only [jst_eq, jst_ne, jst_ni, jst_o, jI_i, jcpy_out, w32_id, jdiv_nn, *] <;> first | done | omega) | (intros; simp (disch := omega) only [jst_eq, jst_ne, jst_ni, jst_o, jI_i, jcpy_out, w32_id, jdiv_nn] at * <;> first | done | omega | assumption) | (intros; first | rfl | (exfalso; omega) | ((repeat' apply And.intro) <;> first | assumption | rfl | omega | trivial))) -- o4 e3i.1
            · (intro i il; rw [ex10] at il; (try rw [w32_id (by omega) (by omega)] at il); by_cases y : (i : Int) = a2; { have yi : i = a2.toNat := (by omega); rw [yi, ← A, ← B]; exact c3 }; { exact q1 i (by omega) }) -- o5 e3i.2
          · (first | assumption | omega | ((try dsimp only [jt2, jt3, jt4]); first | omega | (simp (disch := omega) only [jst_eq, jst_ne, jst_ni, jst_o, jI_i, jcpy_out, w32_id, jdiv_nn, jshr_k, jand_255] <;> first | done | omega | assumption)) | (intros; simp (disch := omega) only [jst_eq, jst_ne, jst_ni, jst_o, jI_i, jcpy_out, w32_id, jdiv_nn, *] <;> first | done | omega) | (intros; simp (disch := omega) only [jst_eq, jst_ne, jst_ni, jst_o, jI_i, jcpy_out, w32_id, jdiv_nn] at * <;> first | done | omega | assumption) | (intros; first | rfl | (exfalso; omega) | ((repeat' apply And.intro) <;> first | assumption | rfl | omega | trivial))) -- o6 e3m
        · skip
          try simp (disch := omega) only [jst_eq, jst_ne, jst_ni, jI_i, jcmp_lt, jcmp_gt, w32_id, jcpy_out, Sum.elim_inl, Sum.elim_inr, jt2, jt3, jt4, jt5, jt6, jt7, jt8] at c3
          refine OK_ir ?_
          exact ⟨⟨q0.1, q0.2.1, q0.2.2⟩, q1, .inr (.inr (by rw [← A, ← B]; exact c3))⟩ -- o7 e4
  · try dsimp only [Sum.elim_inl, Sum.elim_inr, jt2, jt3, jt4, jt5, jt6, jt7, jt8]
    refine ⟨?_, ?_⟩
    · (first | assumption | omega | ((try dsimp only [jt2, jt3, jt4]); first | omega | (simp (disch := omega) only [jst_eq, jst_ne, jst_ni, jst_o, jI_i, jcpy_out, w32_id, jdiv_nn, jshr_k, jand_255] <;> first | done | omega | assumption)) | (intros; simp (disch := omega) only [jst_eq, jst_ne, jst_ni, jst_o, jI_i, jcpy_out, w32_id, jdiv_nn, *] <;> first | done | omega) | (intros; simp (disch := omega) only [jst_eq, jst_ne, jst_ni, jst_o, jI_i, jcpy_out, w32_id, jdiv_nn] at * <;> first | done | omega | assumption) | (intros; first | rfl | (exfalso; omega) | ((repeat' apply And.intro) <;> first | assumption | rfl | omega | trivial))) -- o8 init.1
    · (intro i il; omega) -- o9 init.2
def byL (l : List Int) : Prop := ∀ i : Nat, i < l.length → 0 ≤ l.getD i 0 ∧ l.getD i 0 < 128
def tx6 (h : AH) (A : Int) (l : List Int) : Prop := h A 1 = (l.length : Nat) ∧ l.length ≤ 400 ∧ ∀ i : Nat, i < l.length → h (A + 1) i = l.getD i 0
theorem vX6_isBefore_j86 {h : AH} {l m : List Int} (tl : h 369 1 = (l.length : Nat)) (tm : h 371 1 = (m.length : Nat)) : OK (gX6_isBefore_j86 h) (fun v => (v = 1 ∧ l.length < m.length) ∨ (v = 0 ∧ ¬ l.length < m.length)) := by
  unfold gX6_isBefore_j86
  refine OK_if (fun c1 => ?_) (fun c1 => ?_)
  · skip
    try simp (disch := omega) only [jst_eq, jst_ne, jst_ni, jI_i, jcmp_lt, jcmp_gt, w32_id, jcpy_out, Sum.elim_inl, Sum.elim_inr, jt2, jt3, jt4, jt5, jt6, jt7, jt8] at c1
    refine OK_some ?_
    try dsimp only [Sum.elim_inl, Sum.elim_inr, jt2, jt3, jt4, jt5, jt6, jt7, jt8]
    (first | assumption | omega | ((try dsimp only [jt2, jt3, jt4]); first | omega | (simp (disch := omega) only [jst_eq, jst_ne, jst_ni, jst_o, jI_i, jcpy_out, w32_id, jdiv_nn, jshr_k, jand_255] <;> first | done | omega | assumption)) | (intros; simp (disch := omega) only [jst_eq, jst_ne, jst_ni, jst_o, jI_i, jcpy_out, w32_id, jdiv_nn, *] <;> first | done | omega) | (intros; simp (disch := omega) only [jst_eq, jst_ne, jst_ni, jst_o, jI_i, jcpy_out, w32_id, jdiv_nn] at * <;> first | done | omega | assumption) | (intros; first | rfl | (exfalso; omega) | ((repeat' apply And.intro) <;> first | assumption | rfl | omega | trivial))) -- o1 e1
  · skip
    try simp (disch := omega) only [jst_eq, jst_ne, jst_ni, jI_i, jcmp_lt, jcmp_gt, w32_id, jcpy_out, Sum.elim_inl, Sum.elim_inr, jt2, jt3, jt4, jt5, jt6, jt7, jt8] at c1
    refine OK_some ?_
    try dsimp only [Sum.elim_inl, Sum.elim_inr, jt2, jt3, jt4, jt5, jt6, jt7, jt8]
    (first | assumption | omega | ((try dsimp only [jt2, jt3, jt4]); first | omega | (simp (disch := omega) only [jst_eq, jst_ne, jst_ni, jst_o, jI_i, jcpy_out, w32_id, jdiv_nn, jshr_k, jand_255] <;> first | done | omega | assumption)) | (intros; simp (disch := omega) only [jst_eq, jst_ne, jst_ni, jst_o, jI_i, jcpy_out, w32_id, jdiv_nn, *] <;> first | done | omega) | (intros; simp (disch := omega) only [jst_eq, jst_ne, jst_ni, jst_o, jI_i, jcpy_out, w32_id, jdiv_nn] at * <;> first | done | omega | assumption) | (intros; first | rfl | (exfalso; omega) | ((repeat' apply And.intro) <;> first | assumption | rfl | omega | trivial))) -- o2 e2
theorem vX6_isBefore_j39 (a2 : Int) {h : AH} {l m : List Int} (tl : tx6 h 369 l ∧ byL l) (tm : tx6 h 371 m ∧ byL m) (b : (0 ≤ a2 ∧ a2 ≤ (l.length : Nat) ∧ a2 ≤ (m.length : Nat)) ∧ (∀ i : Nat, (i : Int) < a2 → l.getD i 0 = m.getD i 0) ∧ (a2 = (l.length : Nat) ∨ a2 = (m.length : Nat) ∨ l.getD a2.toNat 0 ≠ m.getD a2.toNat 0)) : OK (gX6_isBefore_j39 a2 h) (fun v => (v = 1 ∧ ltx l m) ∨ (v = 0 ∧ ¬ ltx l m)) := by
  have ea : ((a2.toNat : Nat) : Int) = a2 := by omega
  have AT := ltx_at (l := l) (m := m) (k := a2.toNat) (fun i il => b.2.1 i (by omega)) (by omega) (by omega) (by rcases b.2.2 with y | y | y; { exact .inl (by omega) }; { exact .inr (.inl (by omega)) }; { exact .inr (.inr y) })
  have T1 := tl.1.1
  have T2 := tm.1.1
  have l4 := tl.1.2.1
  unfold gX6_isBefore_j39
  refine OK_if (fun c1 => ?_) (fun c1 => ?_)
  · skip
    try simp (disch := omega) only [jst_eq, jst_ne, jst_ni, jI_i, jcmp_lt, jcmp_gt, w32_id, jcpy_out, Sum.elim_inl, Sum.elim_inr, jt2, jt3, jt4, jt5, jt6, jt7, jt8] at c1
    refine OK_mono (vX6_isBefore_j86 (l := l) (m := m) (by (first | assumption | omega | ((try dsimp only [jt2, jt3, jt4]); first | omega | (simp (disch := omega) only [jst_eq, jst_ne, jst_ni, jst_o, jI_i, jcpy_out, w32_id, jdiv_nn, jshr_k, jand_255] <;> first | done | omega | assumption)) | (intros; simp (disch := omega) only [jst_eq, jst_ne, jst_ni, jst_o, jI_i, jcpy_out, w32_id, jdiv_nn, *] <;> first | done | omega) | (intros; simp (disch := omega) only [jst_eq, jst_ne, jst_ni, jst_o, jI_i, jcpy_out, w32_id, jdiv_nn] at * <;> first | done | omega | assumption) | (intros; first | rfl | (exfalso; omega) | ((repeat' apply And.intro) <;> first | assumption | rfl | omega | trivial)))) (by (first | assumption | omega | ((try dsimp only [jt2, jt3, jt4]); first | omega | (simp (disch := omega) only [jst_eq, jst_ne, jst_ni, jst_o, jI_i, jcpy_out, w32_id, jdiv_nn, jshr_k, jand_255] <;> first | done | omega | assumption)) | (intros; simp (disch := omega) only [jst_eq, jst_ne, jst_ni, jst_o, jI_i, jcpy_out, w32_id, jdiv_nn, *] <;> first | done | omega) | (intros; simp (disch := omega) only [jst_eq, jst_ne, jst_ni, jst_o, jI_i, jcpy_out, w32_id, jdiv_nn] at * <;> first | done | omega | assumption) | (intros; first | rfl | (exfalso; omega) | ((repeat' apply And.intro) <;> first | assumption | rfl | omega | trivial))))) (fun r r1 => ?_)
    try dsimp only [Sum.elim_inl, Sum.elim_inr, jt2, jt3, jt4, jt5, jt6, jt7, jt8] at r1
    have lt1 := r1
    clear r1
    try simp (disch := omega) only [jst_eq, jst_ne, jst_ni, jI_i, jcmp_lt, jcmp_gt, w32_id, jcpy_out, Sum.elim_inl, Sum.elim_inr, jt2, jt3, jt4, jt5, jt6, jt7, jt8] at lt1
    try dsimp only [Sum.elim_inl, Sum.elim_inr, jt2, jt3, jt4, jt5, jt6, jt7, jt8]
    (rw [AT]; rcases lt1 with y | y; { exact .inl ⟨y.1, by omega, .inl (by omega)⟩ }; { exact .inr ⟨y.1, fun z => y.2 (by omega)⟩ }) -- o3 e1
  · skip
    try simp (disch := omega) only [jst_eq, jst_ne, jst_ni, jI_i, jcmp_lt, jcmp_gt, w32_id, jcpy_out, Sum.elim_inl, Sum.elim_inr, jt2, jt3, jt4, jt5, jt6, jt7, jt8] at c1
    refine OK_if (fun c2 => ?_) (fun c2 => ?_)
    · skip
      try simp (disch := omega) only [jst_eq, jst_ne, jst_ni, jI_i, jcmp_lt, jcmp_gt, w32_id, jcpy_out, Sum.elim_inl, Sum.elim_inr, jt2, jt3, jt4, jt5, jt6, jt7, jt8] at c2
      refine OK_mono (vX6_isBefore_j86 (l := l) (m := m) (by (first | assumption | omega | ((try dsimp only [jt2, jt3, jt4]); first | omega | (simp (disch := omega) only [jst_eq, jst_ne, jst_ni, jst_o, jI_i, jcpy_out, w32_id, jdiv_nn, jshr_k, jand_255] <;> first | done | omega | assumption)) | (intros; simp (disch := omega) only [jst_eq, jst_ne, jst_ni, jst_o, jI_i, jcpy_out, w32_id, jdiv_nn, *] <;> first | done | omega) | (intros; simp (disch := omega) only [jst_eq, jst_ne, jst_ni, jst_o, jI_i, jcpy_out, w32_id, jdiv_nn] at * <;> first | done | omega | assumption) | (intros; first | rfl | (exfalso; omega) | ((repeat' apply And.intro) <;> first | assumption | rfl | omega | trivial)))) (by (first | assumption | omega | ((try dsimp only [jt2, jt3, jt4]); first | omega | (simp (disch := omega) only [jst_eq, jst_ne, jst_ni, jst_o, jI_i, jcpy_out, w32_id, jdiv_nn, jshr_k, jand_255] <;> first | done | omega | assumption)) | (intros; simp (disch := omega) only [jst_eq, jst_ne, jst_ni, jst_o, jI_i, jcpy_out, w32_id, jdiv_nn, *] <;> first | done | omega) | (intros; simp (disch := omega) only [jst_eq, jst_ne, jst_ni, jst_o, jI_i, jcpy_out, w32_id, jdiv_nn] at * <;> first | done | omega | assumption) | (intros; first | rfl | (exfalso; omega) | ((repeat' apply And.intro) <;> first | assumption | rfl | omega | trivial))))) (fun r r2 => ?_)
      try dsimp only [Sum.elim_inl, Sum.elim_inr, jt2, jt3, jt4, jt5, jt6, jt7, jt8] at r2
      have lt2 := r2
      clear r2
      try simp (disch := omega) only [jst_eq, jst_ne, jst_ni, jI_i, jcmp_lt, jcmp_gt, w32_id, jcpy_out, Sum.elim_inl, Sum.elim_inr, jt2, jt3, jt4, jt5, jt6, jt7, jt8] at lt2
      try dsimp only [Sum.elim_inl, Sum.elim_inr, jt2, jt3, jt4, jt5, jt6, jt7, jt8]
      (rw [AT]; rcases lt2 with y | y; { exfalso; omega }; { exact .inr ⟨y.1, fun z => by omega⟩ }) -- o6 e2
    · skip
      try simp (disch := omega) only [jst_eq, jst_ne, jst_ni, jI_i, jcmp_lt, jcmp_gt, w32_id, jcpy_out, Sum.elim_inl, Sum.elim_inr, jt2, jt3, jt4, jt5, jt6, jt7, jt8] at c2
      have A := tl.1.2.2 a2.toNat (by omega)
      have B := tm.1.2.2 a2.toNat (by omega)
      rw [ea] at A B
      have bA := tl.2 a2.toNat (by omega)
      have bB := tm.2 a2.toNat (by omega)
      have e1 : jand (h 370 a2) 255 = l.getD a2.toNat 0 := by { rw [jand_255]; have : h 370 a2 = l.getD a2.toNat 0 := A; omega }
      have e2 : jand (h 372 a2) 255 = m.getD a2.toNat 0 := by { rw [jand_255]; have : h 372 a2 = m.getD a2.toNat 0 := B; omega }
      refine OK_jg (by (first | assumption | omega | ((try dsimp only [jt2, jt3, jt4]); first | omega | (simp (disch := omega) only [jst_eq, jst_ne, jst_ni, jst_o, jI_i, jcpy_out, w32_id, jdiv_nn, jshr_k, jand_255] <;> first | done | omega | assumption)) | (intros; simp (disch := omega) only [jst_eq, jst_ne, jst_ni, jst_o, jI_i, jcpy_out, w32_id, jdiv_nn, *] <;> first | done | omega) | (intros; simp (disch := omega) only [jst_eq, jst_ne, jst_ni, jst_o, jI_i, jcpy_out, w32_id, jdiv_nn] at * <;> first | done | omega | assumption) | (intros; first | rfl | (exfalso; omega) | ((repeat' apply And.intro) <;> first | assumption | rfl | omega | trivial)))) ?_ -- o7
      refine OK_if (fun c3 => ?_) (fun c3 => ?_)
      · skip
        try simp (disch := omega) only [jst_eq, jst_ne, jst_ni, jI_i, jcmp_lt, jcmp_gt, w32_id, jcpy_out, Sum.elim_inl, Sum.elim_inr, jt2, jt3, jt4, jt5, jt6, jt7, jt8] at c3
        refine OK_some ?_
        try dsimp only [Sum.elim_inl, Sum.elim_inr, jt2, jt3, jt4, jt5, jt6, jt7, jt8]
        (rw [e1, e2] at c3; exact .inr ⟨rfl, fun y => by (rcases (AT.mp y).2 with z | z; { omega }; { omega })⟩) -- o8 e3
      · skip
        try simp (disch := omega) only [jst_eq, jst_ne, jst_ni, jI_i, jcmp_lt, jcmp_gt, w32_id, jcpy_out, Sum.elim_inl, Sum.elim_inr, jt2, jt3, jt4, jt5, jt6, jt7, jt8] at c3
        refine OK_some ?_
        try dsimp only [Sum.elim_inl, Sum.elim_inr, jt2, jt3, jt4, jt5, jt6, jt7, jt8]
        (rw [e1, e2] at c3; exact .inl ⟨rfl, AT.mpr ⟨by omega, .inr (by omega)⟩⟩) -- o9 e4
theorem vX6_isBefore {h : AH} {l m : List Int} (tl : tx6 h 369 l ∧ byL l) (tm : tx6 h 371 m ∧ byL m) : OK (gX6_isBefore h) (fun v => (v = 1 ∧ ltx l m) ∨ (v = 0 ∧ ¬ ltx l m)) := by
  unfold gX6_isBefore
  refine OK_jb (vX6_isBefore_l2 (l := l) (m := m) _ (by exact tl.1) (by exact tm.1) (by (first | assumption | omega | ((try dsimp only [jt2, jt3, jt4]); first | omega | (simp (disch := omega) only [jst_eq, jst_ne, jst_ni, jst_o, jI_i, jcpy_out, w32_id, jdiv_nn, jshr_k, jand_255] <;> first | done | omega | assumption)) | (intros; simp (disch := omega) only [jst_eq, jst_ne, jst_ni, jst_o, jI_i, jcpy_out, w32_id, jdiv_nn, *] <;> first | done | omega) | (intros; simp (disch := omega) only [jst_eq, jst_ne, jst_ni, jst_o, jI_i, jcpy_out, w32_id, jdiv_nn] at * <;> first | done | omega | assumption) | (intros; first | rfl | (exfalso; omega) | ((repeat' apply And.intro) <;> first | assumption | rfl | omega | trivial))))) (fun o1 r1 => ?_)
  try dsimp only [Sum.elim_inl, Sum.elim_inr, jt2, jt3, jt4, jt5, jt6, jt7, jt8] at r1
  have at1 := r1
  clear r1
  try simp (disch := omega) only [jst_eq, jst_ne, jst_ni, jI_i, jcmp_lt, jcmp_gt, w32_id, jcpy_out, Sum.elim_inl, Sum.elim_inr, jt2, jt3, jt4, jt5, jt6, jt7, jt8] at at1
  refine OK_mono (vX6_isBefore_j39 (l := l) (m := m) _ (by (first | assumption | omega | ((try dsimp only [jt2, jt3, jt4]); first | omega | (simp (disch := omega) only [jst_eq, jst_ne, jst_ni, jst_o, jI_i, jcpy_out, w32_id, jdiv_nn, jshr_k, jand_255] <;> first | done | omega | assumption)) | (intros; simp (disch := omega) only [jst_eq, jst_ne, jst_ni, jst_o, jI_i, jcpy_out, w32_id, jdiv_nn, *] <;> first | done | omega) | (intros; simp (disch := omega) only [jst_eq, jst_ne, jst_ni, jst_o, jI_i, jcpy_out, w32_id, jdiv_nn] at * <;> first | done | omega | assumption) | (intros; first | rfl | (exfalso; omega) | ((repeat' apply And.intro) <;> first | assumption | rfl | omega | trivial)))) (by (first | assumption | omega | ((try dsimp only [jt2, jt3, jt4]); first | omega | (simp (disch := omega) only [jst_eq, jst_ne, jst_ni, jst_o, jI_i, jcpy_out, w32_id, jdiv_nn, jshr_k, jand_255] <;> first | done | omega | assumption)) | (intros; simp (disch := omega) only [jst_eq, jst_ne, jst_ni, jst_o, jI_i, jcpy_out, w32_id, jdiv_nn, *] <;> first | done | omega) | (intros; simp (disch := omega) only [jst_eq, jst_ne, jst_ni, jst_o, jI_i, jcpy_out, w32_id, jdiv_nn] at * <;> first | done | omega | assumption) | (intros; first | rfl | (exfalso; omega) | ((repeat' apply And.intro) <;> first | assumption | rfl | omega | trivial)))) (by (first | assumption | omega | ((try dsimp only [jt2, jt3, jt4]); first | omega | (simp (disch := omega) only [jst_eq, jst_ne, jst_ni, jst_o, jI_i, jcpy_out, w32_id, jdiv_nn, jshr_k, jand_255] <;> first | done | omega | assumption)) | (intros; simp (disch := omega) only [jst_eq, jst_ne, jst_ni, jst_o, jI_i, jcpy_out, w32_id, jdiv_nn, *] <;> first | done | omega) | (intros; simp (disch := omega) only [jst_eq, jst_ne, jst_ni, jst_o, jI_i, jcpy_out, w32_id, jdiv_nn] at * <;> first | done | omega | assumption) | (intros; first | rfl | (exfalso; omega) | ((repeat' apply And.intro) <;> first | assumption | rfl | omega | trivial))))) (fun r r2 => ?_)
  try dsimp only [Sum.elim_inl, Sum.elim_inr, jt2, jt3, jt4, jt5, jt6, jt7, jt8] at r2
  have lt2 := r2
  clear r2
  try simp (disch := omega) only [jst_eq, jst_ne, jst_ni, jI_i, jcmp_lt, jcmp_gt, w32_id, jcpy_out, Sum.elim_inl, Sum.elim_inr, jt2, jt3, jt4, jt5, jt6, jt7, jt8] at lt2
  try dsimp only [Sum.elim_inl, Sum.elim_inr, jt2, jt3, jt4, jt5, jt6, jt7, jt8]
  (first | assumption | omega | ((try dsimp only [jt2, jt3, jt4]); first | omega | (simp (disch := omega) only [jst_eq, jst_ne, jst_ni, jst_o, jI_i, jcpy_out, w32_id, jdiv_nn, jshr_k, jand_255] <;> first | done | omega | assumption)) | (intros; simp (disch := omega) only [jst_eq, jst_ne, jst_ni, jst_o, jI_i, jcpy_out, w32_id, jdiv_nn, *] <;> first | done | omega) | (intros; simp (disch := omega) only [jst_eq, jst_ne, jst_ni, jst_o, jI_i, jcpy_out, w32_id, jdiv_nn] at * <;> first | done | omega | assumption) | (intros; first | rfl | (exfalso; omega) | ((repeat' apply And.intro) <;> first | assumption | rfl | omega | trivial))) -- o7 e1
theorem vX6_set {h : AH} {l : List Int} (tl : tx6 h 369 l) : OK (gX6_set h) (fun h' => (tx6 h' 371 l) ∧ (∀ a s, ¬ (a = 371 ∧ s = 1) → ¬ (a = 372 ∧ 0 ≤ s ∧ s < 400) → h' a s = h a s)) := by
  have T1 := tl.1
  have l4 := tl.2.1
  unfold gX6_set
  refine OK_jl ?_
  have F1 : ∀ a s, ¬ (a = 371 ∧ s = 1) → jst h 371 1 (h 369 1) a s = h a s := fun a s y => jst_o y
  have K1 : jst h 371 1 (h 369 1) 371 1 = h 369 1 := jst_eq
  generalize eg1 : jst h 371 1 (h 369 1) = g1 at *
  refine OK_jg (by (first | assumption | omega | ((try dsimp only [jt2, jt3, jt4]); first | omega | (simp (disch := omega) only [jst_eq, jst_ne, jst_ni, jst_o, jI_i, jcpy_out, w32_id, jdiv_nn, jshr_k, jand_255] <;> first | done | omega | assumption)) | (intros; simp (disch := omega) only [jst_eq, jst_ne, jst_ni, jst_o, jI_i, jcpy_out, w32_id, jdiv_nn, *] <;> first | done | omega) | (intros; simp (disch := omega) only [jst_eq, jst_ne, jst_ni, jst_o, jI_i, jcpy_out, w32_id, jdiv_nn] at * <;> first | done | omega | assumption) | (intros; first | rfl | (exfalso; omega) | ((repeat' apply And.intro) <;> first | assumption | rfl | omega | trivial)))) ?_ -- o1
  refine OK_jl ?_
  refine OK_some ?_
  try dsimp only [Sum.elim_inl, Sum.elim_inr, jt2, jt3, jt4, jt5, jt6, jt7, jt8]
  try dsimp only [Sum.elim_inl, Sum.elim_inr, jt2, jt3, jt4, jt5, jt6, jt7, jt8]
  refine ⟨?_, ?_⟩
  · (refine ⟨?_, l4, fun i il => ?_⟩; { rw [jcpy_ne (by decide), K1]; exact T1 }; { show jcpy g1 370 0 372 0 (g1 371 1) 372 i = _; rw [jcpy_in (by omega) (by omega), show (0 : Int) + ((i : Int) - 0) = i by omega, F1 _ _ (by omega)]; exact tl.2.2 i il }) -- o2 e1.1
  · (intro a s y1 y2; rw [jcpy_out (by omega)]; exact F1 a s y1) -- o3 e1.2

