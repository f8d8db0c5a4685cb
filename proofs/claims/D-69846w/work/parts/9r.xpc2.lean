/-! x: a piece is read, whole -/
theorem pcsX_a {B : Int → Int} {n : Int} {E : EV} {h h' : AH} {a : Int} {l : List (Int × Int)} {p : Int × Int} (x : pcsX B n E h a l) (f : ∀ b s, a + 2 ≤ b → b ≤ a + 5 → 0 ≤ s → s < 12 → s ≠ l.length → h' b s = h b s) (v : l.length < 12 → h' (a + 2) l.length = (if isVl B n p.1 then -1 else max 0 (pcA B n E p.1)) ∧ h' (a + 3) l.length = pcK B n E p.1 ∧ h' (a + 4) l.length = pcV B n p.1 ∧ h' (a + 5) l.length = p.2) : pcsX B n E h' a (l ++ [p]) := fun i i12 u eu => by
  rcases app_ixg eu with ⟨y1, y2⟩ | ⟨y1, y2⟩
  · have z := x i i12 u y2
    rw [f (a + 2) i (by omega) (by omega) (by omega) (by omega) (by omega), f (a + 3) i (by omega) (by omega) (by omega) (by omega) (by omega), f (a + 4) i (by omega) (by omega) (by omega) (by omega) (by omega), f (a + 5) i (by omega) (by omega) (by omega) (by omega) (by omega)]
    exact z
  · subst y2
    rw [y1]; exact v (by omega)
theorem pcsX_f {B : Int → Int} {n : Int} {E : EV} {h h' : AH} {a : Int} {l : List (Int × Int)} (x : pcsX B n E h a l) (f : ∀ b s, a + 2 ≤ b → b ≤ a + 5 → 0 ≤ s → s < 12 → h' b s = h b s) : pcsX B n E h' a l := fun i i12 u eu => by
  have z := x i i12 u eu
  rw [f (a + 2) i (by omega) (by omega) (by omega) (by omega), f (a + 3) i (by omega) (by omega) (by omega) (by omega), f (a + 4) i (by omega) (by omega) (by omega) (by omega), f (a + 5) i (by omega) (by omega) (by omega) (by omega)]
  exact z
def arP (h : AH) (a : Int) : Prop := (h (a + 2) (-2) = 101 ∧ h (a + 2) (-1) = 12) ∧ (h (a + 3) (-2) = 101 ∧ h (a + 3) (-1) = 12)
theorem vX13_piece_j346 (a2 : Int) (a3 : Int) (a4 : Int) (a5 : Int) (t0 : Int) (t1 : Int) (t2 : Int) {h : AH} {B : Int → Int} {n q m : Int} {E : EV} (a20 : isAk (h 441 20) ∧ h (h 441 20) 3 = m ∧ 0 ≤ m ∧ m < 12) (tt : t0 = h 441 20 + 2 ∧ t1 = m ∧ arP h (h 441 20)) (pc : pcH B n E q h (tS B n q) a2 a3 a4) (ac : actX h E.1.1 E.1.2.1 E.1.2.2.1 E.1.2.2.2.1 E.1.2.2.2.2) : OK (gX13_piece_j346 a2 a3 a4 a5 t0 t1 t2 h) (fun h' => (h' (h 441 20) 3 = m + 1 ∧ h' (h 441 20 + 2) m = t2 ∧ h' (h 441 20 + 3) m = pcK B n E q ∧ h' (h 441 20 + 4) m = a3 ∧ h' (h 441 20 + 5) m = a5) ∧ (∀ b s, ¬ (b = h 441 20 ∧ s = 3) → ¬ (h 441 20 + 2 ≤ b ∧ b ≤ h 441 20 + 5 ∧ s = m) → h' b s = h b s)) := by
  have LA : h 441 20 = 271 ∨ h 441 20 = 289 := a20.1
  obtain ⟨pc1, pc2, pc3, pc4, pc5, pc6⟩ := pc
  have PA := pcA_r (B := B) (n := n) (E := E) (q := q)
  have AN := ac.2
  have tt2 : h t0 (-2) = 101 ∧ h t0 (-1) = 12 := by { rw [tt.1]; exact tt.2.2.1 }
  unfold gX13_piece_j346
  refine OK_jg (by (first | ((unfold isX4; omega)) | (first | assumption | omega | ((try dsimp only [jt2, jt3, jt4]); first | omega | (simp (disch := omega) only [jst_eq, jst_ne, jst_ni, jst_o, jI_i, jcpy_out, w32_id, jdiv_nn, jshr_k, jand_255] <;> first | done | omega | assumption)) | (intros; simp (disch := omega) only [jst_eq, jst_ne, jst_ni, jst_o, jI_i, jcpy_out, w32_id, jdiv_nn, *] <;> first | done | omega) | (intros; simp (disch := omega) only [jst_eq, jst_ne, jst_ni, jst_o, jI_i, jcpy_out, w32_id, jdiv_nn] at * <;> first | done | omega | assumption) | (intros; first | rfl | (exfalso; omega) | ((repeat' apply And.intro) <;> first | assumption | rfl | omega | trivial))))) ?_ -- o1
  refine OK_jl ?_
  have F39 : ∀ b s, ¬ (b = t0 ∧ s = t1) → jst h t0 t1 t2 b s = h b s := fun b s y => jst_o y
  have V39 : jst h t0 t1 t2 t0 t1 = t2 := jst_eq
  generalize jst h t0 t1 t2 = g39 at *
  have E39 : g39 441 20 = h 441 20 := F39 _ _ (by omega)
  have M39 : g39 (h 441 20) 3 = m := by { rw [F39 _ _ (by omega)]; exact a20.2.1 }
  have A39 : g39 (h 441 20 + 3) (-2) = 101 ∧ g39 (h 441 20 + 3) (-1) = 12 := by { rw [F39 _ _ (by omega), F39 _ _ (by omega)]; exact tt.2.2.2 }
  have X39 : actX g39 E.1.1 E.1.2.1 E.1.2.2.1 E.1.2.2.2.1 E.1.2.2.2.2 := actX_fr ac (fun a s z => F39 a s (by unfold actC at z; omega))
  rw [E39, M39]
  refine OK_jg (by (first | ((unfold isX4; omega)) | (first | assumption | omega | ((try dsimp only [jt2, jt3, jt4]); first | omega | (simp (disch := omega) only [jst_eq, jst_ne, jst_ni, jst_o, jI_i, jcpy_out, w32_id, jdiv_nn, jshr_k, jand_255] <;> first | done | omega | assumption)) | (intros; simp (disch := omega) only [jst_eq, jst_ne, jst_ni, jst_o, jI_i, jcpy_out, w32_id, jdiv_nn, *] <;> first | done | omega) | (intros; simp (disch := omega) only [jst_eq, jst_ne, jst_ni, jst_o, jI_i, jcpy_out, w32_id, jdiv_nn] at * <;> first | done | omega | assumption) | (intros; first | rfl | (exfalso; omega) | ((repeat' apply And.intro) <;> first | assumption | rfl | omega | trivial))))) ?_ -- o2
  refine OK_if (fun c1 => ?_) (fun c1 => ?_)
  · skip
    try simp (disch := omega) only [jst_eq, jst_ne, jst_ni, jI_i, jcmp_lt, jcmp_gt, w32_id, jcpy_out, Sum.elim_inl, Sum.elim_inr, jt2, jt3, jt4, jt5, jt6, jt7, jt8] at c1
    have K1 : g39 441 18 = pcK B n E q := by { rw [F39 _ _ (by omega)]; rcases pc6 with z | z; { unfold pcK; rw [if_pos z.2.1]; exact z.2.2 }; { omega } }
    refine OK_mono (vX13_piece_j398 (m := m) _ _ _ _ _ (by (rw [E39]; exact ⟨a20.1, M39, a20.2.2⟩)) (by (rw [E39]; exact ⟨rfl, rfl, A39⟩))) (fun r r1 => ?_)
    try dsimp only [Sum.elim_inl, Sum.elim_inr, jt2, jt3, jt4, jt5, jt6, jt7, jt8] at r1
    obtain ⟨v1, fr1⟩ := r1
    try simp (disch := omega) only [jst_eq, jst_ne, jst_ni, jI_i, jcmp_lt, jcmp_gt, w32_id, jcpy_out, Sum.elim_inl, Sum.elim_inr, jt2, jt3, jt4, jt5, jt6, jt7, jt8] at v1
    try simp (disch := omega) only [jst_eq, jst_ne, jst_ni, jI_i, jcmp_lt, jcmp_gt, w32_id, jcpy_out, Sum.elim_inl, Sum.elim_inr, jt2, jt3, jt4, jt5, jt6, jt7, jt8] at fr1
    try dsimp only [Sum.elim_inl, Sum.elim_inr, jt2, jt3, jt4, jt5, jt6, jt7, jt8]
    try dsimp only [Sum.elim_inl, Sum.elim_inr, jt2, jt3, jt4, jt5, jt6, jt7, jt8]
    refine ⟨?_, ?_⟩
    · (rw [E39] at v1 fr1; rw [← K1]; refine ⟨v1.1, ?_, v1.2⟩; rw [fr1 _ _ (by omega) (by omega)]; rw [tt.1, tt.2.1] at V39; exact V39) -- o5 e1.1
    · (rw [E39] at fr1; exact fun b s y1 y2 => (by rw [fr1 b s y1 (by omega)]; exact F39 b s (by omega))) -- o6 e1.2
  · skip
    try simp (disch := omega) only [jst_eq, jst_ne, jst_ni, jI_i, jcmp_lt, jcmp_gt, w32_id, jcpy_out, Sum.elim_inl, Sum.elim_inr, jt2, jt3, jt4, jt5, jt6, jt7, jt8] at c1
    have VN : ¬ isVl B n q := by { rcases pc6 with z | z; { exact absurd z.1 c1 }; { exact z.2 } }
    refine OK_if (fun c2 => ?_) (fun c2 => ?_)
    · skip
      try simp (disch := omega) only [jst_eq, jst_ne, jst_ni, jI_i, jcmp_lt, jcmp_gt, w32_id, jcpy_out, Sum.elim_inl, Sum.elim_inr, jt2, jt3, jt4, jt5, jt6, jt7, jt8] at c2
      have K2 : (-1 : Int) = pcK B n E q := by { unfold pcK; rw [if_neg VN, if_pos (by omega)] }
      refine OK_mono (vX13_piece_j398 (m := m) _ _ _ _ _ (by (rw [E39]; exact ⟨a20.1, M39, a20.2.2⟩)) (by (rw [E39]; exact ⟨rfl, rfl, A39⟩))) (fun r r2 => ?_)
      try dsimp only [Sum.elim_inl, Sum.elim_inr, jt2, jt3, jt4, jt5, jt6, jt7, jt8] at r2
      obtain ⟨v2, fr2⟩ := r2
      try simp (disch := omega) only [jst_eq, jst_ne, jst_ni, jI_i, jcmp_lt, jcmp_gt, w32_id, jcpy_out, Sum.elim_inl, Sum.elim_inr, jt2, jt3, jt4, jt5, jt6, jt7, jt8] at v2
      try simp (disch := omega) only [jst_eq, jst_ne, jst_ni, jI_i, jcmp_lt, jcmp_gt, w32_id, jcpy_out, Sum.elim_inl, Sum.elim_inr, jt2, jt3, jt4, jt5, jt6, jt7, jt8] at fr2
      try dsimp only [Sum.elim_inl, Sum.elim_inr, jt2, jt3, jt4, jt5, jt6, jt7, jt8]
      try dsimp only [Sum.elim_inl, Sum.elim_inr, jt2, jt3, jt4, jt5, jt6, jt7, jt8]
      refine ⟨?_, ?_⟩
      · (rw [E39] at v2 fr2; rw [← K2]; refine ⟨v2.1, ?_, v2.2⟩; rw [fr2 _ _ (by omega) (by omega)]; rw [tt.1, tt.2.1] at V39; exact V39) -- o9 e2.1
      · (rw [E39] at fr2; exact fun b s y1 y2 => (by rw [fr2 b s y1 (by omega)]; exact F39 b s (by omega))) -- o10 e2.2
    · skip
      try simp (disch := omega) only [jst_eq, jst_ne, jst_ni, jI_i, jcmp_lt, jcmp_gt, w32_id, jcpy_out, Sum.elim_inl, Sum.elim_inr, jt2, jt3, jt4, jt5, jt6, jt7, jt8] at c2
      refine OK_jb (vX1_operandsOf (nA := E.1.1) (cA := E.1.2.1) (oA := E.1.2.2.1) (wA := E.1.2.2.2.1) (kA := E.1.2.2.2.2) _ (by (first | ((unfold isX4; omega)) | (first | assumption | omega | ((try dsimp only [jt2, jt3, jt4]); first | omega | (simp (disch := omega) only [jst_eq, jst_ne, jst_ni, jst_o, jI_i, jcpy_out, w32_id, jdiv_nn, jshr_k, jand_255] <;> first | done | omega | assumption)) | (intros; simp (disch := omega) only [jst_eq, jst_ne, jst_ni, jst_o, jI_i, jcpy_out, w32_id, jdiv_nn, *] <;> first | done | omega) | (intros; simp (disch := omega) only [jst_eq, jst_ne, jst_ni, jst_o, jI_i, jcpy_out, w32_id, jdiv_nn] at * <;> first | done | omega | assumption) | (intros; first | rfl | (exfalso; omega) | ((repeat' apply And.intro) <;> first | assumption | rfl | omega | trivial))))) (by (first | ((unfold isX4; omega)) | (first | assumption | omega | ((try dsimp only [jt2, jt3, jt4]); first | omega | (simp (disch := omega) only [jst_eq, jst_ne, jst_ni, jst_o, jI_i, jcpy_out, w32_id, jdiv_nn, jshr_k, jand_255] <;> first | done | omega | assumption)) | (intros; simp (disch := omega) only [jst_eq, jst_ne, jst_ni, jst_o, jI_i, jcpy_out, w32_id, jdiv_nn, *] <;> first | done | omega) | (intros; simp (disch := omega) only [jst_eq, jst_ne, jst_ni, jst_o, jI_i, jcpy_out, w32_id, jdiv_nn] at * <;> first | done | omega | assumption) | (intros; first | rfl | (exfalso; omega) | ((repeat' apply And.intro) <;> first | assumption | rfl | omega | trivial)))))) (fun v43 r3 => ?_)
      try dsimp only [Sum.elim_inl, Sum.elim_inr, jt2, jt3, jt4, jt5, jt6, jt7, jt8] at r3
      have v3 := r3
      clear r3
      try simp (disch := omega) only [jst_eq, jst_ne, jst_ni, jI_i, jcmp_lt, jcmp_gt, w32_id, jcpy_out, Sum.elim_inl, Sum.elim_inr, jt2, jt3, jt4, jt5, jt6, jt7, jt8] at v3
      have O43 : v43 = E.1.2.2.1 a2 := by assumption
      have AO := ac.2.2.2 a2 (by omega) (by omega)
      unfold act1 at AO
      refine OK_jb (vX1_kindOf (nA := E.1.1) (cA := E.1.2.1) (oA := E.1.2.2.1) (wA := E.1.2.2.2.1) (kA := E.1.2.2.2.2) _ _ (by (first | ((unfold isX4; omega)) | (first | assumption | omega | ((try dsimp only [jt2, jt3, jt4]); first | omega | (simp (disch := omega) only [jst_eq, jst_ne, jst_ni, jst_o, jI_i, jcpy_out, w32_id, jdiv_nn, jshr_k, jand_255] <;> first | done | omega | assumption)) | (intros; simp (disch := omega) only [jst_eq, jst_ne, jst_ni, jst_o, jI_i, jcpy_out, w32_id, jdiv_nn, *] <;> first | done | omega) | (intros; simp (disch := omega) only [jst_eq, jst_ne, jst_ni, jst_o, jI_i, jcpy_out, w32_id, jdiv_nn] at * <;> first | done | omega | assumption) | (intros; first | rfl | (exfalso; omega) | ((repeat' apply And.intro) <;> first | assumption | rfl | omega | trivial))))) (by omega)) (fun v45 r4 => ?_)
      try dsimp only [Sum.elim_inl, Sum.elim_inr, jt2, jt3, jt4, jt5, jt6, jt7, jt8] at r4
      have v4 := r4
      clear r4
      try simp (disch := omega) only [jst_eq, jst_ne, jst_ni, jI_i, jcmp_lt, jcmp_gt, w32_id, jcpy_out, Sum.elim_inl, Sum.elim_inr, jt2, jt3, jt4, jt5, jt6, jt7, jt8] at v4
      have K3 : v45 = pcK B n E q := by { have w : v45 = E.1.2.2.2.2 a2 v43 := (by assumption); unfold pcK; rw [if_neg VN, if_neg (by omega), ← pc4]; unfold eO eK; rw [if_neg (by omega), if_neg (by omega), if_neg (by omega), w, O43] }
      refine OK_mono (vX13_piece_j398 (m := m) _ _ _ _ _ (by (rw [E39]; exact ⟨a20.1, M39, a20.2.2⟩)) (by (rw [E39]; exact ⟨rfl, rfl, A39⟩))) (fun r r5 => ?_)
      try dsimp only [Sum.elim_inl, Sum.elim_inr, jt2, jt3, jt4, jt5, jt6, jt7, jt8] at r5
      obtain ⟨v5, fr5⟩ := r5
      try simp (disch := omega) only [jst_eq, jst_ne, jst_ni, jI_i, jcmp_lt, jcmp_gt, w32_id, jcpy_out, Sum.elim_inl, Sum.elim_inr, jt2, jt3, jt4, jt5, jt6, jt7, jt8] at v5
      try simp (disch := omega) only [jst_eq, jst_ne, jst_ni, jI_i, jcmp_lt, jcmp_gt, w32_id, jcpy_out, Sum.elim_inl, Sum.elim_inr, jt2, jt3, jt4, jt5, jt6, jt7, jt8] at fr5
      try dsimp only [Sum.elim_inl, Sum.elim_inr, jt2, jt3, jt4, jt5, jt6, jt7, jt8]
      try dsimp only [Sum.elim_inl, Sum.elim_inr, jt2, jt3, jt4, jt5, jt6, jt7, jt8]
      refine ⟨?_, ?_⟩
      · (rw [E39] at v5 fr5; rw [← K3]; refine ⟨v5.1, ?_, v5.2⟩; rw [fr5 _ _ (by omega) (by omega)]; rw [tt.1, tt.2.1] at V39; exact V39) -- o17 e3.1
      · (rw [E39] at fr5; exact fun b s y1 y2 => (by rw [fr5 b s y1 (by omega)]; exact F39 b s (by omega))) -- o18 e3.2
def frPc (a : Int) (h h' : AH) : Prop := ∀ b s, ¬ (b = 441 ∧ ((2 ≤ s ∧ s ≤ 9) ∨ s = 18)) → ¬ (b = a ∧ s = 3) → ¬ (a + 2 ≤ b ∧ b ≤ a + 5 ∧ 0 ≤ s ∧ s < 12) → h' b s = h b s
theorem frPc_t {a : Int} {h h1 h2 : AH} (x : frPc a h h1) (y : frPc a h1 h2) : frPc a h h2 := fun b s y1 y2 y3 => (y b s y1 y2 y3).trans (x b s y1 y2 y3)
/-- the key of a piece but for its name -/
noncomputable def pk2 (B : Int → Int) (n : Int) (E : EV) (l : List (Int × Int)) (q : Int) : Int := min (dupK B n E q (l.take 12)) (if 12 ≤ l.length then tS B n q * 8 + 5 else 1000000)
theorem vX13_piece_j299 (a1 : Int) (a2 : Int) (a3 : Int) (a4 : Int) (a5 : Int) {h : AH} {B : Int → Int} {n q : Int} {E : EV} {l : List (Int × Int)} (a20 : isAk (h 441 20) ∧ h (h 441 20) 3 = ((min l.length 12 : Nat) : Int) ∧ arP h (h 441 20)) (pc : pcH B n E q h a1 a2 a3 a4) (ps : pcsX B n E h (h 441 20) l) (f8 : 0 ≤ h 441 8 ∧ h 441 8 ≤ 6 ∧ FK h ≤ 1000000) (ac : actX h E.1.1 E.1.2.1 E.1.2.2.1 E.1.2.2.2.1 E.1.2.2.2.2) : OK (gX13_piece_j299 a1 a2 a3 a4 a5 h) (fun h' => (FK h' = min (FK h) (if 12 ≤ l.length then a1 * 8 + 5 else 1000000)) ∧ (0 ≤ h' 441 8 ∧ h' 441 8 ≤ 6) ∧ (pcsX B n E h' (h 441 20) (l ++ [(q, a5)])) ∧ (h' (h 441 20) 3 = ((min (l.length + 1) 12 : Nat) : Int)) ∧ (∀ b s, ¬ (b = 441 ∧ (s = 8 ∨ s = 9)) → ¬ (b = h 441 20 ∧ s = 3) → ¬ (h 441 20 + 2 ≤ b ∧ b ≤ h 441 20 + 5 ∧ 0 ≤ s ∧ s < 12) → h' b s = h b s)) := by
  have LA : h 441 20 = 271 ∨ h 441 20 = 289 := a20.1
  have pc1 := pc.1
  have pc2 := pc.2.1
  have pc3 := pc.2.2.1
  have ML : ((min l.length 12 : Nat) : Int) ≤ 12 := by omega
  unfold gX13_piece_j299
  refine OK_jg (by (first | ((unfold isX4; omega)) | (first | assumption | omega | ((try dsimp only [jt2, jt3, jt4]); first | omega | (simp (disch := omega) only [jst_eq, jst_ne, jst_ni, jst_o, jI_i, jcpy_out, w32_id, jdiv_nn, jshr_k, jand_255] <;> first | done | omega | assumption)) | (intros; simp (disch := omega) only [jst_eq, jst_ne, jst_ni, jst_o, jI_i, jcpy_out, w32_id, jdiv_nn, *] <;> first | done | omega) | (intros; simp (disch := omega) only [jst_eq, jst_ne, jst_ni, jst_o, jI_i, jcpy_out, w32_id, jdiv_nn] at * <;> first | done | omega | assumption) | (intros; first | rfl | (exfalso; omega) | ((repeat' apply And.intro) <;> first | assumption | rfl | omega | trivial))))) ?_ -- o1
  refine OK_if (fun c1 => ?_) (fun c1 => ?_)
  · skip
    try simp (disch := omega) only [jst_eq, jst_ne, jst_ni, jI_i, jcmp_lt, jcmp_gt, w32_id, jcpy_out, Sum.elim_inl, Sum.elim_inr, jt2, jt3, jt4, jt5, jt6, jt7, jt8] at c1
    refine OK_jb (vX13_err _ _ (by omega) (by (first | ((unfold isX4; omega)) | (first | assumption | omega | ((try dsimp only [jt2, jt3, jt4]); first | omega | (simp (disch := omega) only [jst_eq, jst_ne, jst_ni, jst_o, jI_i, jcpy_out, w32_id, jdiv_nn, jshr_k, jand_255] <;> first | done | omega | assumption)) | (intros; simp (disch := omega) only [jst_eq, jst_ne, jst_ni, jst_o, jI_i, jcpy_out, w32_id, jdiv_nn, *] <;> first | done | omega) | (intros; simp (disch := omega) only [jst_eq, jst_ne, jst_ni, jst_o, jI_i, jcpy_out, w32_id, jdiv_nn] at * <;> first | done | omega | assumption) | (intros; first | rfl | (exfalso; omega) | ((repeat' apply And.intro) <;> first | assumption | rfl | omega | trivial)))))) (fun h37 r1 => ?_)
    try dsimp only [Sum.elim_inl, Sum.elim_inr, jt2, jt3, jt4, jt5, jt6, jt7, jt8] at r1
    obtain ⟨f1, k1, fr1⟩ := r1
    try simp (disch := omega) only [jst_eq, jst_ne, jst_ni, jI_i, jcmp_lt, jcmp_gt, w32_id, jcpy_out, Sum.elim_inl, Sum.elim_inr, jt2, jt3, jt4, jt5, jt6, jt7, jt8] at f1
    try simp (disch := omega) only [jst_eq, jst_ne, jst_ni, jI_i, jcmp_lt, jcmp_gt, w32_id, jcpy_out, Sum.elim_inl, Sum.elim_inr, jt2, jt3, jt4, jt5, jt6, jt7, jt8] at k1
    try simp (disch := omega) only [jst_eq, jst_ne, jst_ni, jI_i, jcmp_lt, jcmp_gt, w32_id, jcpy_out, Sum.elim_inl, Sum.elim_inr, jt2, jt3, jt4, jt5, jt6, jt7, jt8] at fr1
    refine OK_some ?_
    try dsimp only [Sum.elim_inl, Sum.elim_inr, jt2, jt3, jt4, jt5, jt6, jt7, jt8]
    try dsimp only [Sum.elim_inl, Sum.elim_inr, jt2, jt3, jt4, jt5, jt6, jt7, jt8]
    refine ⟨?_, ?_, ?_, ?_, ?_⟩
    · (rw [if_pos (by omega)]; exact k1) -- o4 e1.1
    · exact ⟨f1.1, f1.2⟩ -- o5 e1.2
    · exact pcsX_a (p := (q, a5)) ps (fun b s b0 b1 _ _ _ => fr1 b s (by omega)) (fun z => by omega) -- o6 e1.3
    · (rw [fr1 _ _ (by omega), a20.2.1]; omega) -- o7 e1.4
    · exact fun b s y1 y2 y3 => fr1 b s (by omega) -- o8 e1.5
  · skip
    try simp (disch := omega) only [jst_eq, jst_ne, jst_ni, jI_i, jcmp_lt, jcmp_gt, w32_id, jcpy_out, Sum.elim_inl, Sum.elim_inr, jt2, jt3, jt4, jt5, jt6, jt7, jt8] at c1
    have LL : ((min l.length 12 : Nat) : Int) = (l.length : Int) ∧ l.length < 12 := by omega
    refine OK_if (fun c2 => ?_) (fun c2 => ?_)
    · skip
      try simp (disch := omega) only [jst_eq, jst_ne, jst_ni, jI_i, jcmp_lt, jcmp_gt, w32_id, jcpy_out, Sum.elim_inl, Sum.elim_inr, jt2, jt3, jt4, jt5, jt6, jt7, jt8] at c2
      have VV : isVl B n q := by { rcases pc.2.2.2.2.2 with z | z; { exact z.2.1 }; { omega } }
      refine OK_mono (vX13_piece_j346 (B := B) (n := n) (q := q) (m := ((min l.length 12 : Nat) : Int)) (E := E) _ _ _ _ _ _ _ (by exact ⟨a20.1, a20.2.1, by omega, by omega⟩) (by exact ⟨rfl, by rw [a20.2.1], a20.2.2⟩) (by (rw [← pc1]; exact pc)) (by (first | ((unfold isX4; omega)) | (first | assumption | omega | ((try dsimp only [jt2, jt3, jt4]); first | omega | (simp (disch := omega) only [jst_eq, jst_ne, jst_ni, jst_o, jI_i, jcpy_out, w32_id, jdiv_nn, jshr_k, jand_255] <;> first | done | omega | assumption)) | (intros; simp (disch := omega) only [jst_eq, jst_ne, jst_ni, jst_o, jI_i, jcpy_out, w32_id, jdiv_nn, *] <;> first | done | omega) | (intros; simp (disch := omega) only [jst_eq, jst_ne, jst_ni, jst_o, jI_i, jcpy_out, w32_id, jdiv_nn] at * <;> first | done | omega | assumption) | (intros; first | rfl | (exfalso; omega) | ((repeat' apply And.intro) <;> first | assumption | rfl | omega | trivial)))))) (fun r r2 => ?_)
      try dsimp only [Sum.elim_inl, Sum.elim_inr, jt2, jt3, jt4, jt5, jt6, jt7, jt8] at r2
      obtain ⟨v2, fr2⟩ := r2
      try simp (disch := omega) only [jst_eq, jst_ne, jst_ni, jI_i, jcmp_lt, jcmp_gt, w32_id, jcpy_out, Sum.elim_inl, Sum.elim_inr, jt2, jt3, jt4, jt5, jt6, jt7, jt8] at v2
      try simp (disch := omega) only [jst_eq, jst_ne, jst_ni, jI_i, jcmp_lt, jcmp_gt, w32_id, jcpy_out, Sum.elim_inl, Sum.elim_inr, jt2, jt3, jt4, jt5, jt6, jt7, jt8] at fr2
      try dsimp only [Sum.elim_inl, Sum.elim_inr, jt2, jt3, jt4, jt5, jt6, jt7, jt8]
      try dsimp only [Sum.elim_inl, Sum.elim_inr, jt2, jt3, jt4, jt5, jt6, jt7, jt8]
      refine ⟨?_, ?_, ?_, ?_, ?_⟩
      · (rw [if_neg (by omega), FK_fr (fr2 _ _ (by omega) (by omega)) (fr2 _ _ (by omega) (by omega))]; have := f8.2.2; omega) -- o13 e2.1
      · (rw [fr2 _ _ (by omega) (by omega)]; exact ⟨f8.1, f8.2.1⟩) -- o14 e2.2
      · (rw [LL.1] at v2 fr2; exact pcsX_a (p := (q, a5)) ps (fun b s b0 b1 _ _ z => fr2 b s (by omega) (by omega)) (fun _ => ⟨by rw [if_pos VV]; exact v2.2.1, v2.2.2.1, by rw [v2.2.2.2.1]; exact pc.2.2.2.2.1, v2.2.2.2.2⟩)) -- o15 e2.3
      · (rw [v2.1]; omega) -- o16 e2.4
      · exact fun b s y1 y2 y3 => fr2 b s y2 (by omega) -- o17 e2.5
    · skip
      try simp (disch := omega) only [jst_eq, jst_ne, jst_ni, jI_i, jcmp_lt, jcmp_gt, w32_id, jcpy_out, Sum.elim_inl, Sum.elim_inr, jt2, jt3, jt4, jt5, jt6, jt7, jt8] at c2
      have VV : ¬ isVl B n q := by { rcases pc.2.2.2.2.2 with z | z; { exact absurd z.1 c2 }; { exact z.2 } }
      refine OK_mono (vX13_piece_j346 (B := B) (n := n) (q := q) (m := ((min l.length 12 : Nat) : Int)) (E := E) _ _ _ _ _ _ _ (by exact ⟨a20.1, a20.2.1, by omega, by omega⟩) (by exact ⟨rfl, by rw [a20.2.1], a20.2.2⟩) (by (rw [← pc1]; exact pc)) (by (first | ((unfold isX4; omega)) | (first | assumption | omega | ((try dsimp only [jt2, jt3, jt4]); first | omega | (simp (disch := omega) only [jst_eq, jst_ne, jst_ni, jst_o, jI_i, jcpy_out, w32_id, jdiv_nn, jshr_k, jand_255] <;> first | done | omega | assumption)) | (intros; simp (disch := omega) only [jst_eq, jst_ne, jst_ni, jst_o, jI_i, jcpy_out, w32_id, jdiv_nn, *] <;> first | done | omega) | (intros; simp (disch := omega) only [jst_eq, jst_ne, jst_ni, jst_o, jI_i, jcpy_out, w32_id, jdiv_nn] at * <;> first | done | omega | assumption) | (intros; first | rfl | (exfalso; omega) | ((repeat' apply And.intro) <;> first | assumption | rfl | omega | trivial)))))) (fun r r3 => ?_)
      try dsimp only [Sum.elim_inl, Sum.elim_inr, jt2, jt3, jt4, jt5, jt6, jt7, jt8] at r3
      obtain ⟨v3, fr3⟩ := r3
      try simp (disch := omega) only [jst_eq, jst_ne, jst_ni, jI_i, jcmp_lt, jcmp_gt, w32_id, jcpy_out, Sum.elim_inl, Sum.elim_inr, jt2, jt3, jt4, jt5, jt6, jt7, jt8] at v3
      try simp (disch := omega) only [jst_eq, jst_ne, jst_ni, jI_i, jcmp_lt, jcmp_gt, w32_id, jcpy_out, Sum.elim_inl, Sum.elim_inr, jt2, jt3, jt4, jt5, jt6, jt7, jt8] at fr3
      try dsimp only [Sum.elim_inl, Sum.elim_inr, jt2, jt3, jt4, jt5, jt6, jt7, jt8]
      try dsimp only [Sum.elim_inl, Sum.elim_inr, jt2, jt3, jt4, jt5, jt6, jt7, jt8]
      refine ⟨?_, ?_, ?_, ?_, ?_⟩
      · (rw [if_neg (by omega), FK_fr (fr3 _ _ (by omega) (by omega)) (fr3 _ _ (by omega) (by omega))]; have := f8.2.2; omega) -- o22 e3.1
      · (rw [fr3 _ _ (by omega) (by omega)]; exact ⟨f8.1, f8.2.1⟩) -- o23 e3.2
      · (rw [LL.1] at v3 fr3; exact pcsX_a (p := (q, a5)) ps (fun b s b0 b1 _ _ z => fr3 b s (by omega) (by omega)) (fun _ => ⟨by rw [if_neg VV, v3.2.1, pc.2.2.2.1], v3.2.2.1, by rw [v3.2.2.2.1]; exact pc.2.2.2.2.1, v3.2.2.2.2⟩)) -- o24 e3.3
      · (rw [v3.1]; omega) -- o25 e3.4
      · exact fun b s y1 y2 y3 => fr3 b s y2 (by omega) -- o26 e3.5
def poX (B : Int → Int) (n a : Int) (E : EV) (l : List (Int × Int)) (K : Int) (P : Int ⊕ ((Int × Int) × Int)) (h' : AH) : Prop := f8X h' ∧ match P with
  | .inl z => Sx B n (.inl z) h'
  | .inr (p, q1) => Sx B n (.inr q1) h' ∧ FK h' = min K (pk2 B n E l p.1) ∧ pcsX B n E h' a (l ++ [p]) ∧ h' a 3 = ((min (l.length + 1) 12 : Nat) : Int)
/-- what a reader of pieces has -/
def pcQ (B : Int → Int) (n A a : Int) (E : EV) (l : List (Int × Int)) (h : AH) : Prop := TX B n A h ∧ actX h E.1.1 E.1.2.1 E.1.2.2.1 E.1.2.2.2.1 E.1.2.2.2.2 ∧ Od h ∧ (isAk a ∧ h 441 20 = a ∧ h a 3 = ((min l.length 12 : Nat) : Int) ∧ arP h a) ∧ pcsX B n E h a l ∧ f8X h
theorem pcQ_f {B : Int → Int} {n A a : Int} {E : EV} {l : List (Int × Int)} {h h' : AH} (x : pcQ B n A a E l h) (f : ∀ b s, ¬ (b = 441 ∧ ((2 ≤ s ∧ s ≤ 9) ∨ s = 18)) → h' b s = h b s) (g : f8X h') : pcQ B n A a E l h' := by
  obtain ⟨x1, x2, x3, ⟨x4, x5, x6, x7⟩, x8, x9⟩ := x
  have LA : a = 271 ∨ a = 289 := x4
  have ta := x1.2.2.2.2
  refine ⟨TX_fr x1 (f _ _ (by omega)) (f _ _ (by omega)) (fun s => f _ _ (by omega)), actX_fr x2 (fun b s q => f b s (by unfold actC at q; omega)), Od_fr x3 (fun b i b0 b1 => f _ _ (by omega)), ⟨x4, by rw [f _ _ (by omega)]; exact x5, by rw [f _ _ (by omega)]; exact x6, ?_⟩, pcsX_f x8 (fun b s b0 b1 s0 s1 => f _ _ (by omega)), g⟩
  unfold arP at x7 ⊢
  rw [f _ _ (by omega), f _ _ (by omega), f _ _ (by omega), f _ _ (by omega)]
  exact x7
theorem vX13_piece_j168 (a1 : Int) (a2 : Int) (a3 : Int) (a4 : Int) (a5 : Int) {h : AH} {B : Int → Int} {n A a q : Int} {E : EV} {l : List (Int × Int)} {R : Int ⊕ Int} (pq : pcQ B n A a E l h) (sx : Sx B n R h) (pc : pcH B n E q h a1 a2 a3 a4) (un : unK B n E l (FK h) a1) : OK (gX13_piece_j168 a1 a2 a3 a4 a5 h) (fun h' => (poX B n a E l (FK h) (bS R (fun q' => .inr ((q, a5), q'))) h') ∧ (¬ h 441 6 = 0 → h' = h) ∧ (frPc a h h')) := by
  obtain ⟨x1, x2, x3, ⟨x4, x5, x6, x7⟩, x8, x9⟩ := pq
  have LA : a = 271 ∨ a = 289 := x4
  unfold gX13_piece_j168
  refine OK_if (fun c1 => ?_) (fun c1 => ?_)
  · skip
    try simp (disch := omega) only [jst_eq, jst_ne, jst_ni, jI_i, jcmp_lt, jcmp_gt, w32_id, jcpy_out, Sum.elim_inl, Sum.elim_inr, jt2, jt3, jt4, jt5, jt6, jt7, jt8] at c1
    refine OK_jb (vX13_piece_l179 (B := B) (n := n) (q := q) (E := E) (l := l) _ _ _ _ _ _ (by exact pc) (by omega) (by (rw [x5]; exact x8)) (by (rw [x5]; exact x6)) (by exact x9) (by exact un) (by rfl)) (fun o33 r1 => ?_)
    try dsimp only [Sum.elim_inl, Sum.elim_inr, jt2, jt3, jt4, jt5, jt6, jt7, jt8] at r1
    obtain ⟨k1, f81, fr1⟩ := r1
    try simp (disch := omega) only [jst_eq, jst_ne, jst_ni, jI_i, jcmp_lt, jcmp_gt, w32_id, jcpy_out, Sum.elim_inl, Sum.elim_inr, jt2, jt3, jt4, jt5, jt6, jt7, jt8] at k1
    try simp (disch := omega) only [jst_eq, jst_ne, jst_ni, jI_i, jcmp_lt, jcmp_gt, w32_id, jcpy_out, Sum.elim_inl, Sum.elim_inr, jt2, jt3, jt4, jt5, jt6, jt7, jt8] at f81
    try simp (disch := omega) only [jst_eq, jst_ne, jst_ni, jI_i, jcmp_lt, jcmp_gt, w32_id, jcpy_out, Sum.elim_inl, Sum.elim_inr, jt2, jt3, jt4, jt5, jt6, jt7, jt8] at fr1
    have E33 : o33 441 20 = a := by { rw [fr1 _ _ (by omega)]; exact x5 }
    have PC33 : pcH B n E q o33 a1 a2 a3 a4 := by { obtain ⟨p1, p2, p3, p4, p5, p6⟩ := pc; exact ⟨p1, p2, p3, p4, p5, by rw [fr1 _ _ (by omega)]; exact p6⟩ }
    refine OK_mono (vX13_piece_j299 (B := B) (n := n) (q := q) (E := E) (l := l) _ _ _ _ _ (by (rw [E33]; unfold arP; rw [fr1 _ _ (by omega), fr1 _ _ (by omega), fr1 _ _ (by omega), fr1 _ _ (by omega), fr1 _ _ (by omega)]; exact ⟨x4, x6, x7⟩)) (by exact PC33) (by (rw [E33]; exact pcsX_f x8 (fun b s b0 b1 _ _ => fr1 b s (by omega)))) (by (have z := x9.2.2; exact ⟨f81.1, f81.2, by rw [k1]; omega⟩)) (by exact actX_fr x2 (fun b s z => fr1 b s (by unfold actC at z; omega)))) (fun r r2 => ?_)
    try dsimp only [Sum.elim_inl, Sum.elim_inr, jt2, jt3, jt4, jt5, jt6, jt7, jt8] at r2
    obtain ⟨k2, f82, ps2, cn2, fr2⟩ := r2
    try simp (disch := omega) only [jst_eq, jst_ne, jst_ni, jI_i, jcmp_lt, jcmp_gt, w32_id, jcpy_out, Sum.elim_inl, Sum.elim_inr, jt2, jt3, jt4, jt5, jt6, jt7, jt8] at k2
    try simp (disch := omega) only [jst_eq, jst_ne, jst_ni, jI_i, jcmp_lt, jcmp_gt, w32_id, jcpy_out, Sum.elim_inl, Sum.elim_inr, jt2, jt3, jt4, jt5, jt6, jt7, jt8] at f82
    try simp (disch := omega) only [jst_eq, jst_ne, jst_ni, jI_i, jcmp_lt, jcmp_gt, w32_id, jcpy_out, Sum.elim_inl, Sum.elim_inr, jt2, jt3, jt4, jt5, jt6, jt7, jt8] at ps2
    try simp (disch := omega) only [jst_eq, jst_ne, jst_ni, jI_i, jcmp_lt, jcmp_gt, w32_id, jcpy_out, Sum.elim_inl, Sum.elim_inr, jt2, jt3, jt4, jt5, jt6, jt7, jt8] at cn2
    try simp (disch := omega) only [jst_eq, jst_ne, jst_ni, jI_i, jcmp_lt, jcmp_gt, w32_id, jcpy_out, Sum.elim_inl, Sum.elim_inr, jt2, jt3, jt4, jt5, jt6, jt7, jt8] at fr2
    try dsimp only [Sum.elim_inl, Sum.elim_inr, jt2, jt3, jt4, jt5, jt6, jt7, jt8]
    rw [E33] at ps2 cn2 fr2
    have F2 : ∀ b s, ¬ (b = 441 ∧ (s = 8 ∨ s = 9)) → ¬ (b = a ∧ s = 3) → ¬ (a + 2 ≤ b ∧ b ≤ a + 5 ∧ 0 ≤ s ∧ s < 12) → r b s = h b s := fun b s y1 y2 y3 => by { rw [fr2 b s y1 y2 y3]; exact fr1 b s y1 }
    have KK : FK r = min (FK h) (pk2 B n E l q) := by { rw [k2, k1]; unfold pk2; rw [pc.1]; omega }
    try dsimp only [Sum.elim_inl, Sum.elim_inr, jt2, jt3, jt4, jt5, jt6, jt7, jt8]
    refine ⟨?_, ?_, ?_⟩
    · (have SX := Sx_fr sx (h' := r) (fun s s0 s1 => F2 _ _ (by omega) (by omega) (by omega)); refine ⟨⟨f82.1, f82.2, by rw [KK]; have := x9.2.2; omega⟩, ?_⟩; cases R with | inl z => exact SX | inr q' => exact ⟨SX, KK, ps2, cn2⟩) -- o13 e1.1
    · exact fun z => absurd c1 z -- o14 e1.2
    · exact fun b s y1 y2 y3 => F2 b s (by omega) y2 y3 -- o15 e1.3
  · skip
    try simp (disch := omega) only [jst_eq, jst_ne, jst_ni, jI_i, jcmp_lt, jcmp_gt, w32_id, jcpy_out, Sum.elim_inl, Sum.elim_inr, jt2, jt3, jt4, jt5, jt6, jt7, jt8] at c1
    refine OK_some ?_
    try dsimp only [Sum.elim_inl, Sum.elim_inr, jt2, jt3, jt4, jt5, jt6, jt7, jt8]
    try dsimp only [Sum.elim_inl, Sum.elim_inr, jt2, jt3, jt4, jt5, jt6, jt7, jt8]
    refine ⟨?_, ?_, ?_⟩
    · (refine ⟨x9, ?_⟩; rw [(Sx_br sx c1).2]; exact Sx_l (Sx_br sx c1).1 rfl) -- o16 e2.1
    · exact fun _ => rfl -- o17 e2.2
    · exact fun _ _ _ _ _ => rfl -- o18 e2.3
/-- a price behind a colon -/
def pPr (B : Int → Int) (n q q2 : Int) : Int ⊕ ((Int × Int) × Int) := if tO B n q2 = 2 ∧ 1 ≤ tV B n q2 ∧ tV B n q2 ≤ 9 then bS (nx B n q2) fun q3 => .inr ((q, tV B n q2), q3) else .inl (tS B n q2)
def pPq (B : Int → Int) (n q q1 : Int) : Int ⊕ ((Int × Int) × Int) := if isSg B n q1 58 then bS (nx B n q1) (pPr B n q) else .inr ((q, 1), q1)
theorem pPc_e {B : Int → Int} {n q : Int} : pPc B n q = if isVl B n q ∨ tO B n q = 1 then bS (nx B n q) (pPq B n q) else .inl (tS B n q) := rfl
theorem unK_le {B : Int → Int} {n K K' u : Int} {E : EV} {l : List (Int × Int)} (x : unK B n E l K u) (h : K' ≤ K) : unK B n E l K' u := fun p m y z => by have := x p m y z; omega
theorem f8X_f {h h' : AH} (x : f8X h) (f : ∀ s, s = 8 ∨ s = 9 → h' 441 s = h 441 s) : f8X h' := by
  unfold f8X at x ⊢
  rw [f 8 (Or.inl rfl), FK_fr (f 8 (Or.inl rfl)) (f 9 (Or.inr rfl))]
  exact x
theorem pcH_f {B : Int → Int} {n q a1 a2 a3 a4 : Int} {E : EV} {h h' : AH} (x : pcH B n E q h a1 a2 a3 a4) (f : h' 441 18 = h 441 18) : pcH B n E q h' a1 a2 a3 a4 := by
  obtain ⟨p1, p2, p3, p4, p5, p6⟩ := x
  exact ⟨p1, p2, p3, p4, p5, by rw [f]; exact p6⟩
theorem vX13_piece_j151 (a1 : Int) (a2 : Int) (a3 : Int) (a4 : Int) {h : AH} {B : Int → Int} {n A a q : Int} {E : EV} {l : List (Int × Int)} {R : Int ⊕ Int} (hB : ∀ i, 0 ≤ i → i < n → 0 ≤ B i ∧ B i < 256) (pq : pcQ B n A a E l h) (sx : Sx B n R h) (pc : pcH B n E q h a1 a2 a3 a4) (un : unK B n E l (FK h) a1) (d : (∃ q2, R = .inr q2 ∧ tO B n q2 = 2 ∧ 1 ≤ tV B n q2 ∧ tV B n q2 ≤ 9) ∨ (¬ h 441 6 = 0 ∧ ∃ z, R = .inl z)) : OK (gX13_piece_j151 a1 a2 a3 a4 h) (fun h' => (poX B n a E l (FK h) (bS R (pPr B n q)) h') ∧ (frPc a h h')) := by
  unfold gX13_piece_j151
  refine OK_jlx (fun x28 ex28 => ?_)
  try simp (disch := omega) only [jst_eq, jst_ne, jst_ni, jI_i, jcmp_lt, jcmp_gt, w32_id, jcpy_out, Sum.elim_inl, Sum.elim_inr, jt2, jt3, jt4, jt5, jt6, jt7, jt8] at ex28
  refine OK_if (fun c1 => ?_) (fun c1 => ?_)
  · skip
    try simp (disch := omega) only [jst_eq, jst_ne, jst_ni, jI_i, jcmp_lt, jcmp_gt, w32_id, jcpy_out, Sum.elim_inl, Sum.elim_inr, jt2, jt3, jt4, jt5, jt6, jt7, jt8] at c1
    obtain ⟨qq, eR, o2, v1, v9⟩ := d.resolve_right (fun z => z.1 c1)
    rw [eR] at sx
    have NB0 := Sx_inr sx
    have V5 : x28 = tV B n qq := by { rw [ex28]; exact NB0.1.2.1.2.2.2 (Or.inl o2) }
    refine OK_jb (vX13_nextS (B := B) (n := n) (A := A) (q := qq) (by exact pq.1) (by exact hB) (by exact NB0.1) (by exact NB0.2)) (fun h31 r1 => ?_)
    try dsimp only [Sum.elim_inl, Sum.elim_inr, jt2, jt3, jt4, jt5, jt6, jt7, jt8] at r1
    obtain ⟨sx1, fr1⟩ := r1
    try simp (disch := omega) only [jst_eq, jst_ne, jst_ni, jI_i, jcmp_lt, jcmp_gt, w32_id, jcpy_out, Sum.elim_inl, Sum.elim_inr, jt2, jt3, jt4, jt5, jt6, jt7, jt8] at sx1
    try simp (disch := omega) only [jst_eq, jst_ne, jst_ni, jI_i, jcmp_lt, jcmp_gt, w32_id, jcpy_out, Sum.elim_inl, Sum.elim_inr, jt2, jt3, jt4, jt5, jt6, jt7, jt8] at fr1
    have P31 : pcQ B n A a E l h31 := pcQ_f pq (fun b s y => fr1 b s (by omega)) (f8X_f pq.2.2.2.2.2 (fun s y => fr1 _ _ (by omega)))
    have K31 : FK h31 = FK h := FK_fr (fr1 _ _ (by omega)) (fr1 _ _ (by omega))
    refine OK_mono (vX13_piece_j168 (B := B) (n := n) (A := A) (a := a) (q := q) (E := E) (l := l) _ _ _ _ _ (by exact P31) (by exact sx1) (by exact pcH_f pc (fr1 _ _ (by omega))) (by (rw [K31]; exact un))) (fun r r2 => ?_)
    try dsimp only [Sum.elim_inl, Sum.elim_inr, jt2, jt3, jt4, jt5, jt6, jt7, jt8] at r2
    obtain ⟨po2, nb2, fr2⟩ := r2
    try simp (disch := omega) only [jst_eq, jst_ne, jst_ni, jI_i, jcmp_lt, jcmp_gt, w32_id, jcpy_out, Sum.elim_inl, Sum.elim_inr, jt2, jt3, jt4, jt5, jt6, jt7, jt8] at po2
    try simp (disch := omega) only [jst_eq, jst_ne, jst_ni, jI_i, jcmp_lt, jcmp_gt, w32_id, jcpy_out, Sum.elim_inl, Sum.elim_inr, jt2, jt3, jt4, jt5, jt6, jt7, jt8] at nb2
    try simp (disch := omega) only [jst_eq, jst_ne, jst_ni, jI_i, jcmp_lt, jcmp_gt, w32_id, jcpy_out, Sum.elim_inl, Sum.elim_inr, jt2, jt3, jt4, jt5, jt6, jt7, jt8] at fr2
    try dsimp only [Sum.elim_inl, Sum.elim_inr, jt2, jt3, jt4, jt5, jt6, jt7, jt8]
    try dsimp only [Sum.elim_inl, Sum.elim_inr, jt2, jt3, jt4, jt5, jt6, jt7, jt8]
    refine ⟨?_, ?_⟩
    · (rw [eR]; rw [K31, V5] at po2; have e : bS (.inr qq : Int ⊕ Int) (pPr B n q) = bS (nx B n qq) fun q3 => .inr ((q, tV B n qq), q3) := if_pos ⟨o2, v1, v9⟩; rw [e]; exact po2) -- o9 e1.1
    · exact fun b s y1 y2 y3 => (by rw [fr2 b s y1 y2 y3]; exact fr1 b s (by omega)) -- o10 e1.2
  · skip
    try simp (disch := omega) only [jst_eq, jst_ne, jst_ni, jI_i, jcmp_lt, jcmp_gt, w32_id, jcpy_out, Sum.elim_inl, Sum.elim_inr, jt2, jt3, jt4, jt5, jt6, jt7, jt8] at c1
    refine OK_mono (vX13_piece_j168 (B := B) (n := n) (A := A) (a := a) (q := q) (E := E) (l := l) _ _ _ _ _ (by exact pq) (by exact sx) (by exact pc) (by exact un)) (fun r r3 => ?_)
    try dsimp only [Sum.elim_inl, Sum.elim_inr, jt2, jt3, jt4, jt5, jt6, jt7, jt8] at r3
    obtain ⟨po3, nb3, fr3⟩ := r3
    try simp (disch := omega) only [jst_eq, jst_ne, jst_ni, jI_i, jcmp_lt, jcmp_gt, w32_id, jcpy_out, Sum.elim_inl, Sum.elim_inr, jt2, jt3, jt4, jt5, jt6, jt7, jt8] at po3
    try simp (disch := omega) only [jst_eq, jst_ne, jst_ni, jI_i, jcmp_lt, jcmp_gt, w32_id, jcpy_out, Sum.elim_inl, Sum.elim_inr, jt2, jt3, jt4, jt5, jt6, jt7, jt8] at nb3
    try simp (disch := omega) only [jst_eq, jst_ne, jst_ni, jI_i, jcmp_lt, jcmp_gt, w32_id, jcpy_out, Sum.elim_inl, Sum.elim_inr, jt2, jt3, jt4, jt5, jt6, jt7, jt8] at fr3
    try dsimp only [Sum.elim_inl, Sum.elim_inr, jt2, jt3, jt4, jt5, jt6, jt7, jt8]
    try dsimp only [Sum.elim_inl, Sum.elim_inr, jt2, jt3, jt4, jt5, jt6, jt7, jt8]
    refine ⟨?_, ?_⟩
    · (have hb := nb3 c1; rw [hb]; refine ⟨pq.2.2.2.2.2, ?_⟩; rcases d with ⟨q2, e, _⟩ | ⟨_, z, e⟩; { rw [e] at sx; exact absurd (Sx_inr sx).1.1 c1 }; { rw [e] at sx ⊢; exact sx }) -- o15 e2.1
    · exact fr3 -- o16 e2.2
theorem vX13_piece_j147 (a1 : Int) (a2 : Int) (a3 : Int) (a4 : Int) {h : AH} {B : Int → Int} {n A a q : Int} {E : EV} {l : List (Int × Int)} {R : Int ⊕ Int} (hB : ∀ i, 0 ≤ i → i < n → 0 ≤ B i ∧ B i < 256) (pq : pcQ B n A a E l h) (sx : Sx B n R h) (pc : pcH B n E q h a1 a2 a3 a4) (un : unK B n E l (FK h) a1) (d : ∀ q2, R = .inr q2 → ¬ (tO B n q2 = 2 ∧ 1 ≤ tV B n q2 ∧ tV B n q2 ≤ 9)) : OK (gX13_piece_j147 a1 a2 a3 a4 h) (fun h' => (poX B n a E l (FK h) (bS R (pPr B n q)) h') ∧ (frPc a h h')) := by
  unfold gX13_piece_j147
  refine OK_jb (vX13_no (B := B) (n := n) (r := R) (by (first | assumption | omega | ((try dsimp only [jt2, jt3, jt4]); first | omega | (simp (disch := omega) only [jst_eq, jst_ne, jst_ni, jst_o, jI_i, jcpy_out, w32_id, jdiv_nn, jshr_k, jand_255] <;> first | done | omega | assumption)) | (intros; simp (disch := omega) only [jst_eq, jst_ne, jst_ni, jst_o, jI_i, jcpy_out, w32_id, jdiv_nn, *] <;> first | done | omega) | (intros; simp (disch := omega) only [jst_eq, jst_ne, jst_ni, jst_o, jI_i, jcpy_out, w32_id, jdiv_nn] at * <;> first | done | omega | assumption) | (intros; first | rfl | (exfalso; omega) | ((repeat' apply And.intro) <;> first | assumption | rfl | omega | trivial))))) (fun h27 r1 => ?_)
  try dsimp only [Sum.elim_inl, Sum.elim_inr, jt2, jt3, jt4, jt5, jt6, jt7, jt8] at r1
  obtain ⟨nb1, fr1⟩ := r1
  try simp (disch := omega) only [jst_eq, jst_ne, jst_ni, jI_i, jcmp_lt, jcmp_gt, w32_id, jcpy_out, Sum.elim_inl, Sum.elim_inr, jt2, jt3, jt4, jt5, jt6, jt7, jt8] at nb1
  try simp (disch := omega) only [jst_eq, jst_ne, jst_ni, jI_i, jcmp_lt, jcmp_gt, w32_id, jcpy_out, Sum.elim_inl, Sum.elim_inr, jt2, jt3, jt4, jt5, jt6, jt7, jt8] at fr1
  have K27 : FK h27 = FK h := FK_fr (fr1 _ _ (by omega)) (fr1 _ _ (by omega))
  refine OK_mono (vX13_piece_j151 (B := B) (n := n) (A := A) (a := a) (q := q) (E := E) (l := l) (R := .inl (plc B n R)) _ _ _ _ (by exact hB) (by exact pcQ_f pq (fun b s y => fr1 b s (by omega)) (f8X_f pq.2.2.2.2.2 (fun s y => fr1 _ _ (by omega)))) (by exact Sx_l nb1.1 nb1.2) (by exact pcH_f pc (fr1 _ _ (by omega))) (by (rw [K27]; exact un)) (by exact Or.inr ⟨by omega, _, rfl⟩)) (fun r r2 => ?_)
  try dsimp only [Sum.elim_inl, Sum.elim_inr, jt2, jt3, jt4, jt5, jt6, jt7, jt8] at r2
  obtain ⟨po2, fr2⟩ := r2
  try simp (disch := omega) only [jst_eq, jst_ne, jst_ni, jI_i, jcmp_lt, jcmp_gt, w32_id, jcpy_out, Sum.elim_inl, Sum.elim_inr, jt2, jt3, jt4, jt5, jt6, jt7, jt8] at po2
  try simp (disch := omega) only [jst_eq, jst_ne, jst_ni, jI_i, jcmp_lt, jcmp_gt, w32_id, jcpy_out, Sum.elim_inl, Sum.elim_inr, jt2, jt3, jt4, jt5, jt6, jt7, jt8] at fr2
  try dsimp only [Sum.elim_inl, Sum.elim_inr, jt2, jt3, jt4, jt5, jt6, jt7, jt8]
  try dsimp only [Sum.elim_inl, Sum.elim_inr, jt2, jt3, jt4, jt5, jt6, jt7, jt8]
  refine ⟨?_, ?_⟩
  · (rw [K27] at po2; cases R with | inl z => exact po2 | inr q2 => (have e : bS (.inr q2 : Int ⊕ Int) (pPr B n q) = .inl (tS B n q2) := if_neg (d q2 rfl); rw [e]; exact po2)) -- o8 e1.1
  · exact fun b s y1 y2 y3 => (by rw [fr2 b s y1 y2 y3]; exact fr1 b s (by omega)) -- o9 e1.2
theorem vX13_piece_j98 (a1 : Int) (a2 : Int) (a3 : Int) (a4 : Int) {h : AH} {B : Int → Int} {n A a q : Int} {E : EV} {l : List (Int × Int)} {R : Int ⊕ Int} (hB : ∀ i, 0 ≤ i → i < n → 0 ≤ B i ∧ B i < 256) (pq : pcQ B n A a E l h) (sx : Sx B n R h) (pc : pcH B n E q h a1 a2 a3 a4) (un : unK B n E l (FK h) a1) : OK (gX13_piece_j98 a1 a2 a3 a4 h) (fun h' => (poX B n a E l (FK h) (bS R (pPq B n q)) h') ∧ (frPc a h h')) := by
  unfold gX13_piece_j98
  refine OK_if (fun c1 => ?_) (fun c1 => ?_)
  · skip
    try simp (disch := omega) only [jst_eq, jst_ne, jst_ni, jI_i, jcmp_lt, jcmp_gt, w32_id, jcpy_out, Sum.elim_inl, Sum.elim_inr, jt2, jt3, jt4, jt5, jt6, jt7, jt8] at c1
    obtain ⟨q1, nb, k⟩ := Sx_nb sx c1
    have CH := (chX_1 (tok_o B n q1)).2.2.2.2.2.1 58 (Or.inr (Or.inr (Or.inr (Or.inr (Or.inl rfl)))))
    rw [← nb.2.1.2.1] at CH
    refine OK_if (fun c2 => ?_) (fun c2 => ?_)
    · skip
      try simp (disch := omega) only [jst_eq, jst_ne, jst_ni, jI_i, jcmp_lt, jcmp_gt, w32_id, jcpy_out, Sum.elim_inl, Sum.elim_inr, jt2, jt3, jt4, jt5, jt6, jt7, jt8] at c2
      have SG : isSg B n q1 58 := CH.mp c2
      have k2 := k.resolve_left (fun z => by have := SG.1; omega)
      have ER : bS R (pPq B n q) = bS (nx B n q1) (pPr B n q) := by { rw [k2.1]; exact if_pos SG }
      refine OK_jb (vX13_nextS (B := B) (n := n) (A := A) (q := q1) (by exact pq.1) (by exact hB) (by exact nb) (by exact k2.2)) (fun h22 r1 => ?_)
      try dsimp only [Sum.elim_inl, Sum.elim_inr, jt2, jt3, jt4, jt5, jt6, jt7, jt8] at r1
      obtain ⟨sx1, fr1⟩ := r1
      try simp (disch := omega) only [jst_eq, jst_ne, jst_ni, jI_i, jcmp_lt, jcmp_gt, w32_id, jcpy_out, Sum.elim_inl, Sum.elim_inr, jt2, jt3, jt4, jt5, jt6, jt7, jt8] at sx1
      try simp (disch := omega) only [jst_eq, jst_ne, jst_ni, jI_i, jcmp_lt, jcmp_gt, w32_id, jcpy_out, Sum.elim_inl, Sum.elim_inr, jt2, jt3, jt4, jt5, jt6, jt7, jt8] at fr1
      have P22 : pcQ B n A a E l h22 := pcQ_f pq (fun b s y => fr1 b s (by omega)) (f8X_f pq.2.2.2.2.2 (fun s y => fr1 _ _ (by omega)))
      have K22 : FK h22 = FK h := FK_fr (fr1 _ _ (by omega)) (fr1 _ _ (by omega))
      have PC22 := pcH_f pc (fr1 441 18 (by omega))
      have UN22 : unK B n E l (FK h22) a1 := by { rw [K22]; exact un }
      have B22 : h22 441 6 = 0 := by { rw [fr1 _ _ (by omega)]; exact c1 }
      obtain ⟨q2, nb2, w2⟩ := Sx_nb sx1 B22
      have CH2 := (chX_1 (tok_o B n q2)).2.1
      rw [← nb2.2.1.2.1] at CH2
      have NN : ∀ q', nx B n q1 = .inr q' → q' = q2 := fun q' e => by { rcases w2 with y | y; { rw [y.1] at e; cases e }; { rw [y.1] at e; cases e; rfl } }
      refine OK_if (fun c3 => ?_) (fun c3 => ?_)
      · skip
        try simp (disch := omega) only [jst_eq, jst_ne, jst_ni, jI_i, jcmp_lt, jcmp_gt, w32_id, jcpy_out, Sum.elim_inl, Sum.elim_inr, jt2, jt3, jt4, jt5, jt6, jt7, jt8] at c3
        have V5 := nb2.2.1.2.2.2 (Or.inl (CH2.mpr c3))
        have W2 := w2.resolve_left (fun z => by have := CH2.mpr c3; omega)
        refine OK_if (fun c4 => ?_) (fun c4 => ?_)
        · skip
          try simp (disch := omega) only [jst_eq, jst_ne, jst_ni, jI_i, jcmp_lt, jcmp_gt, w32_id, jcpy_out, Sum.elim_inl, Sum.elim_inr, jt2, jt3, jt4, jt5, jt6, jt7, jt8] at c4
          refine OK_mono (vX13_piece_j147 (B := B) (n := n) (A := A) (a := a) (q := q) (E := E) (l := l) (R := nx B n q1) _ _ _ _ (by exact hB) (by exact P22) (by exact sx1) (by exact PC22) (by exact UN22) (by (intro q' e; rw [NN q' e]; omega))) (fun r r2 => ?_)
          try dsimp only [Sum.elim_inl, Sum.elim_inr, jt2, jt3, jt4, jt5, jt6, jt7, jt8] at r2
          obtain ⟨po2, fr2⟩ := r2
          try simp (disch := omega) only [jst_eq, jst_ne, jst_ni, jI_i, jcmp_lt, jcmp_gt, w32_id, jcpy_out, Sum.elim_inl, Sum.elim_inr, jt2, jt3, jt4, jt5, jt6, jt7, jt8] at po2
          try simp (disch := omega) only [jst_eq, jst_ne, jst_ni, jI_i, jcmp_lt, jcmp_gt, w32_id, jcpy_out, Sum.elim_inl, Sum.elim_inr, jt2, jt3, jt4, jt5, jt6, jt7, jt8] at fr2
          try dsimp only [Sum.elim_inl, Sum.elim_inr, jt2, jt3, jt4, jt5, jt6, jt7, jt8]
          try dsimp only [Sum.elim_inl, Sum.elim_inr, jt2, jt3, jt4, jt5, jt6, jt7, jt8]
          refine ⟨?_, ?_⟩
          · (rw [ER, ← K22]; exact po2) -- o11 e1.1
          · exact fun b s y1 y2 y3 => (by rw [fr2 b s y1 y2 y3]; exact fr1 b s (by omega)) -- o12 e1.2
        · skip
          try simp (disch := omega) only [jst_eq, jst_ne, jst_ni, jI_i, jcmp_lt, jcmp_gt, w32_id, jcpy_out, Sum.elim_inl, Sum.elim_inr, jt2, jt3, jt4, jt5, jt6, jt7, jt8] at c4
          refine OK_if (fun c5 => ?_) (fun c5 => ?_)
          · skip
            try simp (disch := omega) only [jst_eq, jst_ne, jst_ni, jI_i, jcmp_lt, jcmp_gt, w32_id, jcpy_out, Sum.elim_inl, Sum.elim_inr, jt2, jt3, jt4, jt5, jt6, jt7, jt8] at c5
            refine OK_mono (vX13_piece_j151 (B := B) (n := n) (A := A) (a := a) (q := q) (E := E) (l := l) (R := nx B n q1) _ _ _ _ (by exact hB) (by exact P22) (by exact sx1) (by exact PC22) (by exact UN22) (by exact Or.inl ⟨q2, W2.1, CH2.mpr c3, by omega, by omega⟩)) (fun r r3 => ?_)
            try dsimp only [Sum.elim_inl, Sum.elim_inr, jt2, jt3, jt4, jt5, jt6, jt7, jt8] at r3
            obtain ⟨po3, fr3⟩ := r3
            try simp (disch := omega) only [jst_eq, jst_ne, jst_ni, jI_i, jcmp_lt, jcmp_gt, w32_id, jcpy_out, Sum.elim_inl, Sum.elim_inr, jt2, jt3, jt4, jt5, jt6, jt7, jt8] at po3
            try simp (disch := omega) only [jst_eq, jst_ne, jst_ni, jI_i, jcmp_lt, jcmp_gt, w32_id, jcpy_out, Sum.elim_inl, Sum.elim_inr, jt2, jt3, jt4, jt5, jt6, jt7, jt8] at fr3
            try dsimp only [Sum.elim_inl, Sum.elim_inr, jt2, jt3, jt4, jt5, jt6, jt7, jt8]
            try dsimp only [Sum.elim_inl, Sum.elim_inr, jt2, jt3, jt4, jt5, jt6, jt7, jt8]
            refine ⟨?_, ?_⟩
            · (rw [ER, ← K22]; exact po3) -- o19 e2.1
            · exact fun b s y1 y2 y3 => (by rw [fr3 b s y1 y2 y3]; exact fr1 b s (by omega)) -- o20 e2.2
          · skip
            try simp (disch := omega) only [jst_eq, jst_ne, jst_ni, jI_i, jcmp_lt, jcmp_gt, w32_id, jcpy_out, Sum.elim_inl, Sum.elim_inr, jt2, jt3, jt4, jt5, jt6, jt7, jt8] at c5
            refine OK_mono (vX13_piece_j147 (B := B) (n := n) (A := A) (a := a) (q := q) (E := E) (l := l) (R := nx B n q1) _ _ _ _ (by exact hB) (by exact P22) (by exact sx1) (by exact PC22) (by exact UN22) (by (intro q' e; rw [NN q' e]; omega))) (fun r r4 => ?_)
            try dsimp only [Sum.elim_inl, Sum.elim_inr, jt2, jt3, jt4, jt5, jt6, jt7, jt8] at r4
            obtain ⟨po4, fr4⟩ := r4
            try simp (disch := omega) only [jst_eq, jst_ne, jst_ni, jI_i, jcmp_lt, jcmp_gt, w32_id, jcpy_out, Sum.elim_inl, Sum.elim_inr, jt2, jt3, jt4, jt5, jt6, jt7, jt8] at po4
            try simp (disch := omega) only [jst_eq, jst_ne, jst_ni, jI_i, jcmp_lt, jcmp_gt, w32_id, jcpy_out, Sum.elim_inl, Sum.elim_inr, jt2, jt3, jt4, jt5, jt6, jt7, jt8] at fr4
            try dsimp only [Sum.elim_inl, Sum.elim_inr, jt2, jt3, jt4, jt5, jt6, jt7, jt8]
            try dsimp only [Sum.elim_inl, Sum.elim_inr, jt2, jt3, jt4, jt5, jt6, jt7, jt8]
            refine ⟨?_, ?_⟩
            · (rw [ER, ← K22]; exact po4) -- o27 e3.1
            · exact fun b s y1 y2 y3 => (by rw [fr4 b s y1 y2 y3]; exact fr1 b s (by omega)) -- o28 e3.2
      · skip
        try simp (disch := omega) only [jst_eq, jst_ne, jst_ni, jI_i, jcmp_lt, jcmp_gt, w32_id, jcpy_out, Sum.elim_inl, Sum.elim_inr, jt2, jt3, jt4, jt5, jt6, jt7, jt8] at c3
        refine OK_mono (vX13_piece_j147 (B := B) (n := n) (A := A) (a := a) (q := q) (E := E) (l := l) (R := nx B n q1) _ _ _ _ (by exact hB) (by exact P22) (by exact sx1) (by exact PC22) (by exact UN22) (by (intro q' e z; rw [NN q' e] at z; exact c3 (CH2.mp z.1)))) (fun r r5 => ?_)
        try dsimp only [Sum.elim_inl, Sum.elim_inr, jt2, jt3, jt4, jt5, jt6, jt7, jt8] at r5
        obtain ⟨po5, fr5⟩ := r5
        try simp (disch := omega) only [jst_eq, jst_ne, jst_ni, jI_i, jcmp_lt, jcmp_gt, w32_id, jcpy_out, Sum.elim_inl, Sum.elim_inr, jt2, jt3, jt4, jt5, jt6, jt7, jt8] at po5
        try simp (disch := omega) only [jst_eq, jst_ne, jst_ni, jI_i, jcmp_lt, jcmp_gt, w32_id, jcpy_out, Sum.elim_inl, Sum.elim_inr, jt2, jt3, jt4, jt5, jt6, jt7, jt8] at fr5
        try dsimp only [Sum.elim_inl, Sum.elim_inr, jt2, jt3, jt4, jt5, jt6, jt7, jt8]
        try dsimp only [Sum.elim_inl, Sum.elim_inr, jt2, jt3, jt4, jt5, jt6, jt7, jt8]
        refine ⟨?_, ?_⟩
        · (rw [ER, ← K22]; exact po5) -- o35 e4.1
        · exact fun b s y1 y2 y3 => (by rw [fr5 b s y1 y2 y3]; exact fr1 b s (by omega)) -- o36 e4.2
    · skip
      try simp (disch := omega) only [jst_eq, jst_ne, jst_ni, jI_i, jcmp_lt, jcmp_gt, w32_id, jcpy_out, Sum.elim_inl, Sum.elim_inr, jt2, jt3, jt4, jt5, jt6, jt7, jt8] at c2
      refine OK_mono (vX13_piece_j168 (B := B) (n := n) (A := A) (a := a) (q := q) (E := E) (l := l) (R := R) _ _ _ _ _ (by exact pq) (by exact sx) (by exact pc) (by exact un)) (fun r r6 => ?_)
      try dsimp only [Sum.elim_inl, Sum.elim_inr, jt2, jt3, jt4, jt5, jt6, jt7, jt8] at r6
      obtain ⟨po6, nb6, fr6⟩ := r6
      try simp (disch := omega) only [jst_eq, jst_ne, jst_ni, jI_i, jcmp_lt, jcmp_gt, w32_id, jcpy_out, Sum.elim_inl, Sum.elim_inr, jt2, jt3, jt4, jt5, jt6, jt7, jt8] at po6
      try simp (disch := omega) only [jst_eq, jst_ne, jst_ni, jI_i, jcmp_lt, jcmp_gt, w32_id, jcpy_out, Sum.elim_inl, Sum.elim_inr, jt2, jt3, jt4, jt5, jt6, jt7, jt8] at nb6
      try simp (disch := omega) only [jst_eq, jst_ne, jst_ni, jI_i, jcmp_lt, jcmp_gt, w32_id, jcpy_out, Sum.elim_inl, Sum.elim_inr, jt2, jt3, jt4, jt5, jt6, jt7, jt8] at fr6
      try dsimp only [Sum.elim_inl, Sum.elim_inr, jt2, jt3, jt4, jt5, jt6, jt7, jt8]
      try dsimp only [Sum.elim_inl, Sum.elim_inr, jt2, jt3, jt4, jt5, jt6, jt7, jt8]
      refine ⟨?_, ?_⟩
      · (have e : bS R (pPq B n q) = bS R (fun q' => .inr ((q, 1), q')) := (by cases R with | inl z => rfl | inr q' => (rcases k with y | y; { cases y.1 }; { cases y.1; exact if_neg (fun z => c2 (CH.mpr z)) })); rw [e]; exact po6) -- o41 e5.1
      · exact fr6 -- o42 e5.2
  · skip
    try simp (disch := omega) only [jst_eq, jst_ne, jst_ni, jI_i, jcmp_lt, jcmp_gt, w32_id, jcpy_out, Sum.elim_inl, Sum.elim_inr, jt2, jt3, jt4, jt5, jt6, jt7, jt8] at c1
    refine OK_mono (vX13_piece_j168 (B := B) (n := n) (A := A) (a := a) (q := q) (E := E) (l := l) (R := R) _ _ _ _ _ (by exact pq) (by exact sx) (by exact pc) (by exact un)) (fun r r7 => ?_)
    try dsimp only [Sum.elim_inl, Sum.elim_inr, jt2, jt3, jt4, jt5, jt6, jt7, jt8] at r7
    obtain ⟨po7, nb7, fr7⟩ := r7
    try simp (disch := omega) only [jst_eq, jst_ne, jst_ni, jI_i, jcmp_lt, jcmp_gt, w32_id, jcpy_out, Sum.elim_inl, Sum.elim_inr, jt2, jt3, jt4, jt5, jt6, jt7, jt8] at po7
    try simp (disch := omega) only [jst_eq, jst_ne, jst_ni, jI_i, jcmp_lt, jcmp_gt, w32_id, jcpy_out, Sum.elim_inl, Sum.elim_inr, jt2, jt3, jt4, jt5, jt6, jt7, jt8] at nb7
    try simp (disch := omega) only [jst_eq, jst_ne, jst_ni, jI_i, jcmp_lt, jcmp_gt, w32_id, jcpy_out, Sum.elim_inl, Sum.elim_inr, jt2, jt3, jt4, jt5, jt6, jt7, jt8] at fr7
    try dsimp only [Sum.elim_inl, Sum.elim_inr, jt2, jt3, jt4, jt5, jt6, jt7, jt8]
    try dsimp only [Sum.elim_inl, Sum.elim_inr, jt2, jt3, jt4, jt5, jt6, jt7, jt8]
    refine ⟨?_, ?_⟩
    · (obtain ⟨x, y⟩ := Sx_br sx c1; rw [y] at po7 ⊢; exact po7) -- o47 e6.1
    · exact fr7 -- o48 e6.2
/-- what becomes of a piece, its name counted -/
def poY (B : Int → Int) (n a : Int) (E : EV) (l : List (Int × Int)) (K : Int) (P : Int ⊕ ((Int × Int) × Int)) (h' : AH) : Prop := f8X h' ∧ match P with
  | .inl z => Sx B n (.inl z) h'
  | .inr (p, q1) => Sx B n (.inr q1) h' ∧ FK h' = min K (pk1 B n E l p.1) ∧ pcsX B n E h' a (l ++ [p]) ∧ h' a 3 = ((min (l.length + 1) 12 : Nat) : Int)
theorem poY_of {B : Int → Int} {n a K K' q : Int} {E : EV} {l : List (Int × Int)} {R : Int ⊕ Int} {h' : AH} (p : poX B n a E l K' (bS R (pPq B n q)) h') (e : K' = min K (if ¬ isVl B n q ∧ pcA B n E q = -1 then tS B n q * 8 + 2 else 1000000)) : poY B n a E l K (bS R (pPq B n q)) h' := by
  obtain ⟨p1, p2⟩ := p
  refine ⟨p1, ?_⟩
  cases eP : bS R (pPq B n q) with
  | inl z => rw [eP] at p2; exact p2
  | inr x =>
    obtain ⟨p, q1⟩ := x
    rw [eP] at p2
    obtain ⟨y1, y2, y3, y4⟩ := p2
    have ep : p.1 = q := by
      cases R with
      | inl z => cases eP
      | inr r =>
        have w : pPq B n q r = .inr (p, q1) := eP
        unfold pPq at w
        by_cases c : isSg B n r 58
        · rw [if_pos c] at w
          obtain ⟨q2, _, w⟩ := bS_r w
          unfold pPr at w
          by_cases d : tO B n q2 = 2 ∧ 1 ≤ tV B n q2 ∧ tV B n q2 ≤ 9
          · rw [if_pos d] at w
            obtain ⟨q3, _, w⟩ := bS_r w
            cases w; rfl
          · rw [if_neg d] at w; cases w
        · rw [if_neg c] at w; cases w; rfl
    refine ⟨y1, ?_, y3, y4⟩
    rw [y2, e, ep]
    unfold pk1 pk2
    omega
theorem vX13_piece_j86 (a1 : Int) (a2 : Int) (a3 : Int) (a4 : Int) {h : AH} {B : Int → Int} {n A a q : Int} {E : EV} {l : List (Int × Int)} (hB : ∀ i, 0 ≤ i → i < n → 0 ≤ B i ∧ B i < 256) (pq : pcQ B n A a E l h) (nb : NB B n q h ∧ tO B n q ≠ 5) (pc : pcH B n E q h a1 a2 a3 a4) (un : unK B n E l (FK h) a1) : OK (gX13_piece_j86 a1 a2 a3 a4 h) (fun h' => (poX B n a E l (FK h) (bS (nx B n q) (pPq B n q)) h') ∧ (frPc a h h')) := by
  unfold gX13_piece_j86
  refine OK_jb (vX13_nextS (B := B) (n := n) (A := A) (q := q) (by exact pq.1) (by exact hB) (by exact nb.1) (by exact nb.2)) (fun h63 r1 => ?_)
  try dsimp only [Sum.elim_inl, Sum.elim_inr, jt2, jt3, jt4, jt5, jt6, jt7, jt8] at r1
  obtain ⟨sx1, fr1⟩ := r1
  try simp (disch := omega) only [jst_eq, jst_ne, jst_ni, jI_i, jcmp_lt, jcmp_gt, w32_id, jcpy_out, Sum.elim_inl, Sum.elim_inr, jt2, jt3, jt4, jt5, jt6, jt7, jt8] at sx1
  try simp (disch := omega) only [jst_eq, jst_ne, jst_ni, jI_i, jcmp_lt, jcmp_gt, w32_id, jcpy_out, Sum.elim_inl, Sum.elim_inr, jt2, jt3, jt4, jt5, jt6, jt7, jt8] at fr1
  have K63 : FK h63 = FK h := FK_fr (fr1 _ _ (by omega)) (fr1 _ _ (by omega))
  refine OK_mono (vX13_piece_j98 (B := B) (n := n) (A := A) (a := a) (q := q) (E := E) (l := l) (R := nx B n q) _ _ _ _ (by exact hB) (by exact pcQ_f pq (fun b s y => fr1 b s (by omega)) (f8X_f pq.2.2.2.2.2 (fun s y => fr1 _ _ (by omega)))) (by exact sx1) (by exact pcH_f pc (fr1 _ _ (by omega))) (by (rw [K63]; exact un))) (fun r r2 => ?_)
  try dsimp only [Sum.elim_inl, Sum.elim_inr, jt2, jt3, jt4, jt5, jt6, jt7, jt8] at r2
  obtain ⟨po2, fr2⟩ := r2
  try simp (disch := omega) only [jst_eq, jst_ne, jst_ni, jI_i, jcmp_lt, jcmp_gt, w32_id, jcpy_out, Sum.elim_inl, Sum.elim_inr, jt2, jt3, jt4, jt5, jt6, jt7, jt8] at po2
  try simp (disch := omega) only [jst_eq, jst_ne, jst_ni, jI_i, jcmp_lt, jcmp_gt, w32_id, jcpy_out, Sum.elim_inl, Sum.elim_inr, jt2, jt3, jt4, jt5, jt6, jt7, jt8] at fr2
  try dsimp only [Sum.elim_inl, Sum.elim_inr, jt2, jt3, jt4, jt5, jt6, jt7, jt8]
  try dsimp only [Sum.elim_inl, Sum.elim_inr, jt2, jt3, jt4, jt5, jt6, jt7, jt8]
  refine ⟨?_, ?_⟩
  · (rw [← K63]; exact po2) -- o10 e1.1
  · exact fun b s y1 y2 y3 => (by rw [fr2 b s y1 y2 y3]; exact fr1 b s (by omega)) -- o11 e1.2
theorem vX13_piece_j50 (a1 : Int) (a2 : Int) (a3 : Int) (a4 : Int) {h : AH} {B : Int → Int} {n A a q u : Int} {E : EV} {l : List (Int × Int)} {R : Int ⊕ Int} (hB : ∀ i, 0 ≤ i → i < n → 0 ≤ B i ∧ B i < 256) (pq : pcQ B n A a E l h) (sx : Sx B n R h ∧ NB B n q h ∧ R = .inr q ∧ tO B n q ≠ 5) (aa : a1 = tS B n q ∧ a2 = -1 ∧ a3 = 0 ∧ ((a4 = 0 ∧ isVl B n q) ∨ (a4 = 1 ∧ ¬ isVl B n q ∧ tO B n q = 1))) (un : unK B n E l (FK h) u ∧ u ≤ q) : OK (gX13_piece_j50 a1 a2 a3 a4 h) (fun h' => (poY B n a E l (FK h) (bS (nx B n q) (pPq B n q)) h') ∧ (frPc a h h')) := by
  have NB0 := sx.2.1
  have S := tS_r (B := B) NB0.2.2.2
  have ntx := pq.1.2.2
  have tn := ntx.1
  have tn2 := ntx.2.1
  have q0 := NB0.2.2.1
  have UN : ∀ K, K ≤ FK h → unK B n E l K a1 := fun K k p m y z => by { have := un.1 p m y z; omega }
  unfold gX13_piece_j50
  refine OK_if (fun c1 => ?_) (fun c1 => ?_)
  · skip
    try simp (disch := omega) only [jst_eq, jst_ne, jst_ni, jI_i, jcmp_lt, jcmp_gt, w32_id, jcpy_out, Sum.elim_inl, Sum.elim_inr, jt2, jt3, jt4, jt5, jt6, jt7, jt8] at c1
    have VL : isVl B n q := by { rcases aa.2.2.2 with z | z; { exact z.2 }; { omega } }
    refine OK_jb2 (vX13_value (B := B) (n := n) (A := A) (R := R) (by exact pq.1) (by exact hB) (by exact sx.1) (by exact pq.2.2.1)) (fun v12 h13 r1 => ?_)
    try dsimp only [Sum.elim_inl, Sum.elim_inr, jt2, jt3, jt4, jt5, jt6, jt7, jt8] at r1
    obtain ⟨sx1, v1, rg1, fr1⟩ := r1
    try simp (disch := omega) only [jst_eq, jst_ne, jst_ni, jI_i, jcmp_lt, jcmp_gt, w32_id, jcpy_out, Sum.elim_inl, Sum.elim_inr, jt2, jt3, jt4, jt5, jt6, jt7, jt8] at sx1
    try simp (disch := omega) only [jst_eq, jst_ne, jst_ni, jI_i, jcmp_lt, jcmp_gt, w32_id, jcpy_out, Sum.elim_inl, Sum.elim_inr, jt2, jt3, jt4, jt5, jt6, jt7, jt8] at v1
    try simp (disch := omega) only [jst_eq, jst_ne, jst_ni, jI_i, jcmp_lt, jcmp_gt, w32_id, jcpy_out, Sum.elim_inl, Sum.elim_inr, jt2, jt3, jt4, jt5, jt6, jt7, jt8] at rg1
    try simp (disch := omega) only [jst_eq, jst_ne, jst_ni, jI_i, jcmp_lt, jcmp_gt, w32_id, jcpy_out, Sum.elim_inl, Sum.elim_inr, jt2, jt3, jt4, jt5, jt6, jt7, jt8] at fr1
    have VV := v1 q sx.2.2.1 VL
    have K13 : FK h13 = FK h := FK_fr (fr1 _ _ (by omega)) (fr1 _ _ (by omega))
    refine OK_mono (vX13_piece_j98 (B := B) (n := n) (A := A) (a := a) (q := q) (E := E) (l := l) (R := bnd R (pVl B n)) _ _ _ _ (by exact hB) (by exact pcQ_f pq (fun b s y => fr1 b s (by omega)) (f8X_f pq.2.2.2.2.2 (fun s y => fr1 _ _ (by omega)))) (by exact sx1) (by exact ⟨aa.1, by omega, by omega, by rw [aa.2.1]; unfold pcA; rw [if_pos VL], by rw [VV.1]; unfold pcV; rw [if_pos VL], Or.inl ⟨c1, VL, VV.2⟩⟩) (by exact UN _ (by omega))) (fun r r2 => ?_)
    try dsimp only [Sum.elim_inl, Sum.elim_inr, jt2, jt3, jt4, jt5, jt6, jt7, jt8] at r2
    obtain ⟨po2, fr2⟩ := r2
    try simp (disch := omega) only [jst_eq, jst_ne, jst_ni, jI_i, jcmp_lt, jcmp_gt, w32_id, jcpy_out, Sum.elim_inl, Sum.elim_inr, jt2, jt3, jt4, jt5, jt6, jt7, jt8] at po2
    try simp (disch := omega) only [jst_eq, jst_ne, jst_ni, jI_i, jcmp_lt, jcmp_gt, w32_id, jcpy_out, Sum.elim_inl, Sum.elim_inr, jt2, jt3, jt4, jt5, jt6, jt7, jt8] at fr2
    try dsimp only [Sum.elim_inl, Sum.elim_inr, jt2, jt3, jt4, jt5, jt6, jt7, jt8]
    try dsimp only [Sum.elim_inl, Sum.elim_inr, jt2, jt3, jt4, jt5, jt6, jt7, jt8]
    refine ⟨?_, ?_⟩
    · (have ev : bnd R (pVl B n) = nx B n q := (by rw [sx.2.2.1]; exact if_pos VL); rw [ev, K13] at po2; exact poY_of po2 (by rw [if_neg (fun z => z.1 VL)]; have := pq.2.2.2.2.2.2.2; omega)) -- o10 e1.1
    · exact fun b s y1 y2 y3 => (by rw [fr2 b s y1 y2 y3]; exact fr1 b s (by omega)) -- o11 e1.2
  · skip
    try simp (disch := omega) only [jst_eq, jst_ne, jst_ni, jI_i, jcmp_lt, jcmp_gt, w32_id, jcpy_out, Sum.elim_inl, Sum.elim_inr, jt2, jt3, jt4, jt5, jt6, jt7, jt8] at c1
    have VN : ¬ isVl B n q ∧ tO B n q = 1 := by { rcases aa.2.2.2 with z | z; { exact absurd z.1 c1 }; { exact z.2 } }
    have X4 := NB0.2.1.2.2.1 (by omega)
    have A4 : a4 = 1 := by omega
    have EA := pq.1.1
    refine OK_jb (vX1_actBy (B := B) (n := n) (q := q) (nA := E.1.1) (cA := E.1.2.1) (oA := E.1.2.2.1) (wA := E.1.2.2.2.1) (kA := E.1.2.2.2.2) _ _ _ (by (rw [EA]; exact pq.1)) (by exact pq.2.1) (by exact ⟨VN.2, NB0.2.1.1, X4, NB0.2.2⟩)) (fun v15 r3 => ?_)
    try dsimp only [Sum.elim_inl, Sum.elim_inr, jt2, jt3, jt4, jt5, jt6, jt7, jt8] at r3
    have v3 := r3
    clear r3
    try simp (disch := omega) only [jst_eq, jst_ne, jst_ni, jI_i, jcmp_lt, jcmp_gt, w32_id, jcpy_out, Sum.elim_inl, Sum.elim_inr, jt2, jt3, jt4, jt5, jt6, jt7, jt8] at v3
    have V15 : v15 = pcA B n E q := by { have w : v15 = fA E.1.2.1 (tV B n q) E.1.1.toNat 0 := (by assumption); unfold pcA; rw [if_neg VN.1, w] }
    have PV0 : pcV B n q = 0 := by { unfold pcV; rw [if_neg VN.1] }
    refine OK_if (fun c2 => ?_) (fun c2 => ?_)
    · skip
      try simp (disch := omega) only [jst_eq, jst_ne, jst_ni, jI_i, jcmp_lt, jcmp_gt, w32_id, jcpy_out, Sum.elim_inl, Sum.elim_inr, jt2, jt3, jt4, jt5, jt6, jt7, jt8] at c2
      refine OK_jb (vX13_err _ _ (by exact ⟨pq.2.2.2.2.2.1, pq.2.2.2.2.2.2.1⟩) (by omega)) (fun h18 r4 => ?_)
      try dsimp only [Sum.elim_inl, Sum.elim_inr, jt2, jt3, jt4, jt5, jt6, jt7, jt8] at r4
      obtain ⟨f4, k4, fr4⟩ := r4
      try simp (disch := omega) only [jst_eq, jst_ne, jst_ni, jI_i, jcmp_lt, jcmp_gt, w32_id, jcpy_out, Sum.elim_inl, Sum.elim_inr, jt2, jt3, jt4, jt5, jt6, jt7, jt8] at f4
      try simp (disch := omega) only [jst_eq, jst_ne, jst_ni, jI_i, jcmp_lt, jcmp_gt, w32_id, jcpy_out, Sum.elim_inl, Sum.elim_inr, jt2, jt3, jt4, jt5, jt6, jt7, jt8] at k4
      try simp (disch := omega) only [jst_eq, jst_ne, jst_ni, jI_i, jcmp_lt, jcmp_gt, w32_id, jcpy_out, Sum.elim_inl, Sum.elim_inr, jt2, jt3, jt4, jt5, jt6, jt7, jt8] at fr4
      have K18 : FK h18 = min (FK h) (tS B n q * 8 + 2) := by { rw [k4, aa.1] }
      have F18 : f8X h18 := ⟨f4.1, f4.2, by have := pq.2.2.2.2.2.2.2; omega⟩
      refine OK_mono (vX13_piece_j86 (B := B) (n := n) (A := A) (a := a) (q := q) (E := E) (l := l) _ _ _ _ (by exact hB) (by exact pcQ_f pq (fun b s y => fr4 b s (by omega)) F18) (by exact ⟨NB_fr NB0 (fun s s0 s1 => fr4 _ _ (by omega)), sx.2.2.2⟩) (by exact ⟨aa.1, by omega, by omega, V15, by rw [PV0]; exact aa.2.2.1, Or.inr ⟨A4, VN.1⟩⟩) (by exact UN _ (by omega))) (fun r r5 => ?_)
      try dsimp only [Sum.elim_inl, Sum.elim_inr, jt2, jt3, jt4, jt5, jt6, jt7, jt8] at r5
      obtain ⟨po5, fr5⟩ := r5
      try simp (disch := omega) only [jst_eq, jst_ne, jst_ni, jI_i, jcmp_lt, jcmp_gt, w32_id, jcpy_out, Sum.elim_inl, Sum.elim_inr, jt2, jt3, jt4, jt5, jt6, jt7, jt8] at po5
      try simp (disch := omega) only [jst_eq, jst_ne, jst_ni, jI_i, jcmp_lt, jcmp_gt, w32_id, jcpy_out, Sum.elim_inl, Sum.elim_inr, jt2, jt3, jt4, jt5, jt6, jt7, jt8] at fr5
      try dsimp only [Sum.elim_inl, Sum.elim_inr, jt2, jt3, jt4, jt5, jt6, jt7, jt8]
      try dsimp only [Sum.elim_inl, Sum.elim_inr, jt2, jt3, jt4, jt5, jt6, jt7, jt8]
      refine ⟨?_, ?_⟩
      · (have eP : bS (bnd R (pVl B n)) (pPq B n q) = .inl 0 ∨ True := Or.inr trivial; exact poY_of po5 (by rw [if_pos ⟨VN.1, by omega⟩]; exact K18)) -- o22 e2.1
      · exact fun b s y1 y2 y3 => (by rw [fr5 b s y1 y2 y3]; exact fr4 b s (by omega)) -- o23 e2.2
    · skip
      try simp (disch := omega) only [jst_eq, jst_ne, jst_ni, jI_i, jcmp_lt, jcmp_gt, w32_id, jcpy_out, Sum.elim_inl, Sum.elim_inr, jt2, jt3, jt4, jt5, jt6, jt7, jt8] at c2
      refine OK_mono (vX13_piece_j86 (B := B) (n := n) (A := A) (a := a) (q := q) (E := E) (l := l) _ _ _ _ (by exact hB) (by exact pq) (by exact ⟨NB0, sx.2.2.2⟩) (by exact ⟨aa.1, by omega, by omega, V15, by rw [PV0]; exact aa.2.2.1, Or.inr ⟨A4, VN.1⟩⟩) (by exact UN _ (by omega))) (fun r r6 => ?_)
      try dsimp only [Sum.elim_inl, Sum.elim_inr, jt2, jt3, jt4, jt5, jt6, jt7, jt8] at r6
      obtain ⟨po6, fr6⟩ := r6
      try simp (disch := omega) only [jst_eq, jst_ne, jst_ni, jI_i, jcmp_lt, jcmp_gt, w32_id, jcpy_out, Sum.elim_inl, Sum.elim_inr, jt2, jt3, jt4, jt5, jt6, jt7, jt8] at po6
      try simp (disch := omega) only [jst_eq, jst_ne, jst_ni, jI_i, jcmp_lt, jcmp_gt, w32_id, jcpy_out, Sum.elim_inl, Sum.elim_inr, jt2, jt3, jt4, jt5, jt6, jt7, jt8] at fr6
      try dsimp only [Sum.elim_inl, Sum.elim_inr, jt2, jt3, jt4, jt5, jt6, jt7, jt8]
      try dsimp only [Sum.elim_inl, Sum.elim_inr, jt2, jt3, jt4, jt5, jt6, jt7, jt8]
      refine ⟨?_, ?_⟩
      · exact poY_of po6 (by rw [if_neg (fun z => c2 (by omega))]; have := pq.2.2.2.2.2.2.2; omega) -- o29 e3.1
      · exact fr6 -- o30 e3.2
theorem vX13_piece {h : AH} {B : Int → Int} {n A a u : Int} {E : EV} {l : List (Int × Int)} {R : Int ⊕ Int} (hB : ∀ i, 0 ≤ i → i < n → 0 ≤ B i ∧ B i < 256) (pq : pcQ B n A a E l h) (sx : Sx B n R h) (un : unK B n E l (FK h) u ∧ ∀ q, R = .inr q → u ≤ q) : OK (gX13_piece h) (fun h' => (poY B n a E l (FK h) (bS R (pPc B n)) h') ∧ (frPc a h h')) := by
  unfold gX13_piece
  refine OK_if (fun c1 => ?_) (fun c1 => ?_)
  · skip
    try simp (disch := omega) only [jst_eq, jst_ne, jst_ni, jI_i, jcmp_lt, jcmp_gt, w32_id, jcpy_out, Sum.elim_inl, Sum.elim_inr, jt2, jt3, jt4, jt5, jt6, jt7, jt8] at c1
    obtain ⟨q, nb, k⟩ := Sx_nb sx c1
    have X3 := nb.2.1.1
    have CH := (chX_1 (tok_o B n q)).1
    rw [← nb.2.1.2.1] at CH
    refine OK_jlx (fun x2 ex2 => ?_)
    try simp (disch := omega) only [jst_eq, jst_ne, jst_ni, jI_i, jcmp_lt, jcmp_gt, w32_id, jcpy_out, Sum.elim_inl, Sum.elim_inr, jt2, jt3, jt4, jt5, jt6, jt7, jt8] at ex2
    refine OK_jb (vX13_isValue (B := B) (n := n) (A := A) (q := q) (by exact pq.1) (by exact nb) (by exact pq.2.2.1)) (fun v4 r1 => ?_)
    try dsimp only [Sum.elim_inl, Sum.elim_inr, jt2, jt3, jt4, jt5, jt6, jt7, jt8] at r1
    have v1 := r1
    clear r1
    try simp (disch := omega) only [jst_eq, jst_ne, jst_ni, jI_i, jcmp_lt, jcmp_gt, w32_id, jcpy_out, Sum.elim_inl, Sum.elim_inr, jt2, jt3, jt4, jt5, jt6, jt7, jt8] at v1
    have V4 : v4 = if isVl B n q then 1 else 0 := by assumption
    refine OK_if (fun c2 => ?_) (fun c2 => ?_)
    · skip
      try simp (disch := omega) only [jst_eq, jst_ne, jst_ni, jI_i, jcmp_lt, jcmp_gt, w32_id, jcpy_out, Sum.elim_inl, Sum.elim_inr, jt2, jt3, jt4, jt5, jt6, jt7, jt8] at c2
      have VN : ¬ isVl B n q := fun z => by { rw [if_pos z] at V4; omega }
      unfold gX13_piece_j29
      refine OK_if (fun c3 => ?_) (fun c3 => ?_)
      · skip
        try simp (disch := omega) only [jst_eq, jst_ne, jst_ni, jI_i, jcmp_lt, jcmp_gt, w32_id, jcpy_out, Sum.elim_inl, Sum.elim_inr, jt2, jt3, jt4, jt5, jt6, jt7, jt8] at c3
        exfalso
        exact absurd c3 (by decide)
      · skip
        try simp (disch := omega) only [jst_eq, jst_ne, jst_ni, jI_i, jcmp_lt, jcmp_gt, w32_id, jcpy_out, Sum.elim_inl, Sum.elim_inr, jt2, jt3, jt4, jt5, jt6, jt7, jt8] at c3
        refine OK_if (fun c4 => ?_) (fun c4 => ?_)
        · skip
          try simp (disch := omega) only [jst_eq, jst_ne, jst_ni, jI_i, jcmp_lt, jcmp_gt, w32_id, jcpy_out, Sum.elim_inl, Sum.elim_inr, jt2, jt3, jt4, jt5, jt6, jt7, jt8] at c4
          have o1 : tO B n q = 1 := CH.mpr c4
          have K2 := k.resolve_left (fun z => by omega)
          refine OK_mono (vX13_piece_j50 (B := B) (n := n) (A := A) (a := a) (q := q) (u := u) (E := E) (l := l) (R := R) _ _ _ _ (by exact hB) (by exact pq) (by exact ⟨sx, nb, K2.1, K2.2⟩) (by exact ⟨by rw [ex2]; exact X3, rfl, rfl, Or.inr ⟨rfl, VN, o1⟩⟩) (by exact ⟨un.1, un.2 q K2.1⟩)) (fun r r2 => ?_)
          try dsimp only [Sum.elim_inl, Sum.elim_inr, jt2, jt3, jt4, jt5, jt6, jt7, jt8] at r2
          obtain ⟨po2, fr2⟩ := r2
          try simp (disch := omega) only [jst_eq, jst_ne, jst_ni, jI_i, jcmp_lt, jcmp_gt, w32_id, jcpy_out, Sum.elim_inl, Sum.elim_inr, jt2, jt3, jt4, jt5, jt6, jt7, jt8] at po2
          try simp (disch := omega) only [jst_eq, jst_ne, jst_ni, jI_i, jcmp_lt, jcmp_gt, w32_id, jcpy_out, Sum.elim_inl, Sum.elim_inr, jt2, jt3, jt4, jt5, jt6, jt7, jt8] at fr2
          try dsimp only [Sum.elim_inl, Sum.elim_inr, jt2, jt3, jt4, jt5, jt6, jt7, jt8]
          try dsimp only [Sum.elim_inl, Sum.elim_inr, jt2, jt3, jt4, jt5, jt6, jt7, jt8]
          refine ⟨?_, ?_⟩
          · (rw [K2.1]; have e : bS (.inr q : Int ⊕ Int) (pPc B n) = bS (nx B n q) (pPq B n q) := if_pos (Or.inr o1); rw [e]; exact po2) -- o9 e1.1
          · exact fr2 -- o10 e1.2
        · skip
          try simp (disch := omega) only [jst_eq, jst_ne, jst_ni, jI_i, jcmp_lt, jcmp_gt, w32_id, jcpy_out, Sum.elim_inl, Sum.elim_inr, jt2, jt3, jt4, jt5, jt6, jt7, jt8] at c4
          refine OK_jb (vX13_no (B := B) (n := n) (r := R) (by (first | assumption | omega | ((try dsimp only [jt2, jt3, jt4]); first | omega | (simp (disch := omega) only [jst_eq, jst_ne, jst_ni, jst_o, jI_i, jcpy_out, w32_id, jdiv_nn, jshr_k, jand_255] <;> first | done | omega | assumption)) | (intros; simp (disch := omega) only [jst_eq, jst_ne, jst_ni, jst_o, jI_i, jcpy_out, w32_id, jdiv_nn, *] <;> first | done | omega) | (intros; simp (disch := omega) only [jst_eq, jst_ne, jst_ni, jst_o, jI_i, jcpy_out, w32_id, jdiv_nn] at * <;> first | done | omega | assumption) | (intros; first | rfl | (exfalso; omega) | ((repeat' apply And.intro) <;> first | assumption | rfl | omega | trivial))))) (fun h9 r3 => ?_)
          try dsimp only [Sum.elim_inl, Sum.elim_inr, jt2, jt3, jt4, jt5, jt6, jt7, jt8] at r3
          obtain ⟨nb3, fr3⟩ := r3
          try simp (disch := omega) only [jst_eq, jst_ne, jst_ni, jI_i, jcmp_lt, jcmp_gt, w32_id, jcpy_out, Sum.elim_inl, Sum.elim_inr, jt2, jt3, jt4, jt5, jt6, jt7, jt8] at nb3
          try simp (disch := omega) only [jst_eq, jst_ne, jst_ni, jI_i, jcmp_lt, jcmp_gt, w32_id, jcpy_out, Sum.elim_inl, Sum.elim_inr, jt2, jt3, jt4, jt5, jt6, jt7, jt8] at fr3
          refine OK_some ?_
          try dsimp only [Sum.elim_inl, Sum.elim_inr, jt2, jt3, jt4, jt5, jt6, jt7, jt8]
          try dsimp only [Sum.elim_inl, Sum.elim_inr, jt2, jt3, jt4, jt5, jt6, jt7, jt8]
          refine ⟨?_, ?_⟩
          · (refine ⟨f8X_f pq.2.2.2.2.2 (fun s y => fr3 _ _ (by omega)), ?_⟩; cases R with | inl z => exact Sx_l nb3.1 nb3.2 | inr q' => (rcases k with y | y; { cases y.1 }; { cases y.1; have e : bS (.inr q : Int ⊕ Int) (pPc B n) = .inl (tS B n q) := if_neg (fun z => z.elim VN (fun o => c4 (CH.mp o))); rw [e]; exact Sx_l nb3.1 nb3.2 })) -- o12 e2.1
          · exact fun b s y1 y2 y3 => fr3 b s (by omega) -- o13 e2.2
    · skip
      try simp (disch := omega) only [jst_eq, jst_ne, jst_ni, jI_i, jcmp_lt, jcmp_gt, w32_id, jcpy_out, Sum.elim_inl, Sum.elim_inr, jt2, jt3, jt4, jt5, jt6, jt7, jt8] at c2
      have VP : isVl B n q := Classical.byContradiction fun z => by { rw [if_neg z] at V4; omega }
      have K2 := k.resolve_left (fun z => by rcases VP with w | w | w | w <;> (first | omega | (have := w.1; omega)))
      unfold gX13_piece_j29
      refine OK_if (fun c5 => ?_) (fun c5 => ?_)
      · skip
        try simp (disch := omega) only [jst_eq, jst_ne, jst_ni, jI_i, jcmp_lt, jcmp_gt, w32_id, jcpy_out, Sum.elim_inl, Sum.elim_inr, jt2, jt3, jt4, jt5, jt6, jt7, jt8] at c5
        refine OK_mono (vX13_piece_j50 (B := B) (n := n) (A := A) (a := a) (q := q) (u := u) (E := E) (l := l) (R := R) _ _ _ _ (by exact hB) (by exact pq) (by exact ⟨sx, nb, K2.1, K2.2⟩) (by exact ⟨by rw [ex2]; exact X3, rfl, rfl, Or.inl ⟨rfl, VP⟩⟩) (by exact ⟨un.1, un.2 q K2.1⟩)) (fun r r4 => ?_)
        try dsimp only [Sum.elim_inl, Sum.elim_inr, jt2, jt3, jt4, jt5, jt6, jt7, jt8] at r4
        obtain ⟨po4, fr4⟩ := r4
        try simp (disch := omega) only [jst_eq, jst_ne, jst_ni, jI_i, jcmp_lt, jcmp_gt, w32_id, jcpy_out, Sum.elim_inl, Sum.elim_inr, jt2, jt3, jt4, jt5, jt6, jt7, jt8] at po4
        try simp (disch := omega) only [jst_eq, jst_ne, jst_ni, jI_i, jcmp_lt, jcmp_gt, w32_id, jcpy_out, Sum.elim_inl, Sum.elim_inr, jt2, jt3, jt4, jt5, jt6, jt7, jt8] at fr4
        try dsimp only [Sum.elim_inl, Sum.elim_inr, jt2, jt3, jt4, jt5, jt6, jt7, jt8]
        try dsimp only [Sum.elim_inl, Sum.elim_inr, jt2, jt3, jt4, jt5, jt6, jt7, jt8]
        refine ⟨?_, ?_⟩
        · (rw [K2.1]; have e : bS (.inr q : Int ⊕ Int) (pPc B n) = bS (nx B n q) (pPq B n q) := if_pos (Or.inl VP); rw [e]; exact po4) -- o19 e3.1
        · exact fr4 -- o20 e3.2
      · skip
        try simp (disch := omega) only [jst_eq, jst_ne, jst_ni, jI_i, jcmp_lt, jcmp_gt, w32_id, jcpy_out, Sum.elim_inl, Sum.elim_inr, jt2, jt3, jt4, jt5, jt6, jt7, jt8] at c5
        exfalso
        first | exact c5 trivial | exact c5 rfl
  · skip
    try simp (disch := omega) only [jst_eq, jst_ne, jst_ni, jI_i, jcmp_lt, jcmp_gt, w32_id, jcpy_out, Sum.elim_inl, Sum.elim_inr, jt2, jt3, jt4, jt5, jt6, jt7, jt8] at c1
    refine OK_some ?_
    try dsimp only [Sum.elim_inl, Sum.elim_inr, jt2, jt3, jt4, jt5, jt6, jt7, jt8]
    try dsimp only [Sum.elim_inl, Sum.elim_inr, jt2, jt3, jt4, jt5, jt6, jt7, jt8]
    refine ⟨?_, ?_⟩
    · (obtain ⟨x, y⟩ := Sx_br sx c1; rw [y]; exact ⟨pq.2.2.2.2.2, Sx_l x rfl⟩) -- o21 e4.1
    · exact fun _ _ _ _ _ => rfl -- o22 e4.2

