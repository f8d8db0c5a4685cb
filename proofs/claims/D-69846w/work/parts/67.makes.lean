/-! x: what an act makes, noted -/
def ntI (a b c : Int) : Int := (a * 120 + b) * 120 + c
def ntH (h : AH) (a1 a2 a3 a4 a5 : Int) : AH := if 0 ≤ a4 then jst h 317 (ntI a2 a3 a4) (a5 + 1) else jst h 316 (ntI a1 a2 (max 0 a3)) (a5 + 1)
theorem vX5_three (a0 : Int) (a1 : Int) (a2 : Int) (b : 0 ≤ a0 ∧ a0 < 120 ∧ 0 ≤ a1 ∧ a1 < 120 ∧ 0 ≤ a2 ∧ a2 < 120) : OK (gX5_three a0 a1 a2) (fun v => v = ntI a0 a1 a2) := by
  have w1 : w32 (a0 * 120) = a0 * 120 := w32_id (by omega) (by omega)
  have w2 : w32 (a0 * 120 + a1) = a0 * 120 + a1 := w32_id (by omega) (by omega)
  have w3 : w32 ((a0 * 120 + a1) * 120) = (a0 * 120 + a1) * 120 := w32_id (by omega) (by omega)
  have w4 : w32 ((a0 * 120 + a1) * 120 + a2) = (a0 * 120 + a1) * 120 + a2 := w32_id (by omega) (by omega)
  unfold gX5_three
  refine OK_some ?_
  try dsimp only [Sum.elim_inl, Sum.elim_inr, jt2, jt3, jt4, jt5, jt6, jt7, jt8]
  (unfold ntI; rw [w1, w2, w3, w4]) -- o1 e1
theorem vX5_note (a1 : Int) (a2 : Int) (a3 : Int) (a4 : Int) (a5 : Int) {h : AH} (b : 0 ≤ a1 ∧ a1 < 12 ∧ 0 ≤ a2 ∧ a2 < 120 ∧ -1 ≤ a3 ∧ a3 < 120 ∧ -1 ≤ a4 ∧ a4 < 120 ∧ (0 ≤ a4 → 0 ≤ a3) ∧ 0 ≤ a5 ∧ a5 < 120) : OK (gX5_note a1 a2 a3 a4 a5 h) (fun h' => h' = ntH h a1 a2 a3 a4 a5) := by
  have w1 : w32 (a1 * 120) = a1 * 120 := w32_id (by omega) (by omega)
  have w2 : w32 (a1 * 120 + a2) = a1 * 120 + a2 := w32_id (by omega) (by omega)
  have w3 : w32 ((a1 * 120 + a2) * 120) = (a1 * 120 + a2) * 120 := w32_id (by omega) (by omega)
  have w4 : w32 ((a1 * 120 + a2) * 120 + max 0 a3) = (a1 * 120 + a2) * 120 + max 0 a3 := w32_id (by omega) (by omega)
  have w5 : w32 (a5 + 1) = a5 + 1 := w32_id (by omega) (by omega)
  have w6 : ji2b (ji2b (a5 + 1)) = a5 + 1 := by { rw [ji2b_id (x := a5 + 1) (by omega) (by omega), ji2b_id (by omega) (by omega)] }
  unfold gX5_note
  refine OK_if (fun c1 => ?_) (fun c1 => ?_)
  · skip
    try simp (disch := omega) only [jst_eq, jst_ne, jst_ni, jI_i, jcmp_lt, jcmp_gt, w32_id, jcpy_out, Sum.elim_inl, Sum.elim_inr, jt2, jt3, jt4, jt5, jt6, jt7, jt8] at c1
    refine OK_jb (vX5_three _ _ _ (by (first | assumption | omega | ((try dsimp only [jt2, jt3, jt4]); first | omega | (simp (disch := omega) only [jst_eq, jst_ne, jst_ni, jst_o, jI_i, jcpy_out, w32_id, jdiv_nn, jshr_k, jand_255] <;> first | done | omega | assumption)) | (intros; simp (disch := omega) only [jst_eq, jst_ne, jst_ni, jst_o, jI_i, jcpy_out, w32_id, jdiv_nn, *] <;> first | done | omega) | (intros; simp (disch := omega) only [jst_eq, jst_ne, jst_ni, jst_o, jI_i, jcpy_out, w32_id, jdiv_nn] at * <;> first | done | omega | assumption) | (intros; first | rfl | (exfalso; omega) | ((repeat' apply And.intro) <;> first | assumption | rfl | omega | trivial))))) (fun v3 r1 => ?_)
    try dsimp only [Sum.elim_inl, Sum.elim_inr, jt2, jt3, jt4, jt5, jt6, jt7, jt8] at r1
    have th1 := r1
    clear r1
    try simp (disch := omega) only [jst_eq, jst_ne, jst_ni, jI_i, jcmp_lt, jcmp_gt, w32_id, jcpy_out, Sum.elim_inl, Sum.elim_inr, jt2, jt3, jt4, jt5, jt6, jt7, jt8] at th1
    have t3 : v3 = (a2 * 120 + a3) * 120 + a4 := th1
    refine OK_jg (by (first | assumption | omega | ((try dsimp only [jt2, jt3, jt4]); first | omega | (simp (disch := omega) only [jst_eq, jst_ne, jst_ni, jst_o, jI_i, jcpy_out, w32_id, jdiv_nn, jshr_k, jand_255] <;> first | done | omega | assumption)) | (intros; simp (disch := omega) only [jst_eq, jst_ne, jst_ni, jst_o, jI_i, jcpy_out, w32_id, jdiv_nn, *] <;> first | done | omega) | (intros; simp (disch := omega) only [jst_eq, jst_ne, jst_ni, jst_o, jI_i, jcpy_out, w32_id, jdiv_nn] at * <;> first | done | omega | assumption) | (intros; first | rfl | (exfalso; omega) | ((repeat' apply And.intro) <;> first | assumption | rfl | omega | trivial)))) ?_ -- o2
    refine OK_jl ?_
    refine OK_some ?_
    try dsimp only [Sum.elim_inl, Sum.elim_inr, jt2, jt3, jt4, jt5, jt6, jt7, jt8]
    (unfold ntH; rw [if_pos (by omega), w5, w6, th1]) -- o3 e1
  · skip
    try simp (disch := omega) only [jst_eq, jst_ne, jst_ni, jI_i, jcmp_lt, jcmp_gt, w32_id, jcpy_out, Sum.elim_inl, Sum.elim_inr, jt2, jt3, jt4, jt5, jt6, jt7, jt8] at c1
    refine OK_jg (by (first | assumption | omega | ((try dsimp only [jt2, jt3, jt4]); first | omega | (simp (disch := omega) only [jst_eq, jst_ne, jst_ni, jst_o, jI_i, jcpy_out, w32_id, jdiv_nn, jshr_k, jand_255] <;> first | done | omega | assumption)) | (intros; simp (disch := omega) only [jst_eq, jst_ne, jst_ni, jst_o, jI_i, jcpy_out, w32_id, jdiv_nn, *] <;> first | done | omega) | (intros; simp (disch := omega) only [jst_eq, jst_ne, jst_ni, jst_o, jI_i, jcpy_out, w32_id, jdiv_nn] at * <;> first | done | omega | assumption) | (intros; first | rfl | (exfalso; omega) | ((repeat' apply And.intro) <;> first | assumption | rfl | omega | trivial)))) ?_ -- o4
    refine OK_jl ?_
    refine OK_some ?_
    try dsimp only [Sum.elim_inl, Sum.elim_inr, jt2, jt3, jt4, jt5, jt6, jt7, jt8]
    (unfold ntH ntI; rw [if_neg (by omega), w1, w2, w3, w4, w5, w6]) -- o5 e2
/-- what comes of an act on functions: found, full, or a new function -/
def MKR (h h' : AH) (E : EV) (W : Int → Int → Int → VW) (N pts : Int) (kd wt hd : Int → Int) (op vl : Int → Int → Int) (ac a1 a2 a3 a4 a5 a6 v : Int) : Prop := ∃ h2, f320 pts h h2 ∧ (-2147483648 ≤ h2 200 10 ∧ h2 200 10 < 2147483648) ∧ ((0 ≤ v ∧ v < N ∧ kd v = eK E ac (eO E ac) ∧ eqV pts (vl v) (mkV E W vl ac a4 a5 a6) ∧ h' = ntH h2 a2 a4 a5 a6 v) ∨ ((∀ o, 0 ≤ o → o < N → ¬ (kd o = eK E ac (eO E ac) ∧ eqV pts (vl o) (mkV E W vl ac a4 a5 a6))) ∧ ((N = 120 ∧ v = -1 ∧ h' = h2) ∨ (N < 120 ∧ v = N ∧ ∃ h3, h3 315 N = -1 ∧ frP N pts h2 h3 ∧ tbX h3 (N + 1) (up1 kd N (eK E ac (eO E ac))) (up1 wt N a1) (up1 hd N a3) (up1 op N (op3 a4 a5 a6)) (up1 vl N (mkV E W vl ac a4 a5 a6)) pts ∧ h' = ntH h3 a2 a4 a5 a6 N))))
theorem vX5_makes (a1 : Int) (a2 : Int) (a3 : Int) (a4 : Int) (a5 : Int) (a6 : Int) {h : AH} {E : EV} {Rf : Int → TR} {W : Int → Int → Int → VW} {f : Int → Int → Int → Int} {N pts : Int} {kd wt hd : Int → Int} {op vl : Int → Int → Int} {ac : Int} (t : tbX h N kd wt hd op vl pts) (en : enuX h E Rf W f) (e0 : E.2.2.1 = 0) (c : OWC h) (i : 0 ≤ a2 ∧ a2 < 12 ∧ h (h 200 16 + 2) a2 = ac ∧ 0 ≤ ac ∧ ac < E.1.1) (o : 0 ≤ a4 ∧ a4 < N ∧ -1 ≤ a5 ∧ a5 < N ∧ -1 ≤ a6 ∧ a6 < N ∧ (0 ≤ a6 → 0 ≤ a5)) (g : ∀ p, 0 ≤ p → p < pts → GVP E ac (vlO vl a4 p) (vlO vl a5 p) (vlO vl a6 p)) : OK (gX5_makes a1 a2 a3 a4 a5 a6 h) (fun r => jt2 r fun v h' => MKR h h' E W N pts kd wt hd op vl ac a1 a2 a3 a4 a5 a6 v) := by
  have t7 := t.2.2.2.2.2.2.1
  have x4 : h 200 16 = 271 ∨ h 200 16 = 289 := t.1
  have ek : eK E ac (eO E ac) = E.1.2.2.2.2 ac (E.1.2.2.1 ac) := by { unfold eK eO; rw [if_neg (by omega), if_neg (by omega), if_neg (by omega)] }
  have oo := (en.2.1.2.2.1 ac i.2.2.2.1 i.2.2.2.2).1
  have eo : eO E ac = E.1.2.2.1 ac := by { unfold eO; rw [if_neg (by omega), if_neg (by omega)] }
  unfold gX5_makes
  refine OK_jg (by (first | assumption | omega | ((try dsimp only [jt2, jt3, jt4]); first | omega | (simp (disch := omega) only [jst_eq, jst_ne, jst_ni, jst_o, jI_i, jcpy_out, w32_id, jdiv_nn, jshr_k, jand_255] <;> first | done | omega | assumption)) | (intros; simp (disch := omega) only [jst_eq, jst_ne, jst_ni, jst_o, jI_i, jcpy_out, w32_id, jdiv_nn, *] <;> first | done | omega) | (intros; simp (disch := omega) only [jst_eq, jst_ne, jst_ni, jst_o, jI_i, jcpy_out, w32_id, jdiv_nn] at * <;> first | done | omega | assumption) | (intros; first | rfl | (exfalso; omega) | ((repeat' apply And.intro) <;> first | assumption | rfl | omega | trivial)))) ?_ -- o1
  refine OK_jlx (fun x1 ex1 => ?_)
  try simp (disch := omega) only [jst_eq, jst_ne, jst_ni, jI_i, jcmp_lt, jcmp_gt, w32_id, jcpy_out, Sum.elim_inl, Sum.elim_inr, jt2, jt3, jt4, jt5, jt6, jt7, jt8] at ex1
  have x1e : x1 = ac := by omega
  refine OK_jb (vX5_makes_l17 (E := E) (Rf := Rf) (W := W) (f := f) (N := N) (pts := pts) (kd := kd) (wt := wt) (hd := hd) (op := op) (vl := vl) _ _ _ _ _ _ _ _ (by exact t) (by exact en) (by (first | assumption | omega | ((try dsimp only [jt2, jt3, jt4]); first | omega | (simp (disch := omega) only [jst_eq, jst_ne, jst_ni, jst_o, jI_i, jcpy_out, w32_id, jdiv_nn, jshr_k, jand_255] <;> first | done | omega | assumption)) | (intros; simp (disch := omega) only [jst_eq, jst_ne, jst_ni, jst_o, jI_i, jcpy_out, w32_id, jdiv_nn, *] <;> first | done | omega) | (intros; simp (disch := omega) only [jst_eq, jst_ne, jst_ni, jst_o, jI_i, jcpy_out, w32_id, jdiv_nn] at * <;> first | done | omega | assumption) | (intros; first | rfl | (exfalso; omega) | ((repeat' apply And.intro) <;> first | assumption | rfl | omega | trivial)))) (by exact c) (by (first | assumption | omega | ((try dsimp only [jt2, jt3, jt4]); first | omega | (simp (disch := omega) only [jst_eq, jst_ne, jst_ni, jst_o, jI_i, jcpy_out, w32_id, jdiv_nn, jshr_k, jand_255] <;> first | done | omega | assumption)) | (intros; simp (disch := omega) only [jst_eq, jst_ne, jst_ni, jst_o, jI_i, jcpy_out, w32_id, jdiv_nn, *] <;> first | done | omega) | (intros; simp (disch := omega) only [jst_eq, jst_ne, jst_ni, jst_o, jI_i, jcpy_out, w32_id, jdiv_nn] at * <;> first | done | omega | assumption) | (intros; first | rfl | (exfalso; omega) | ((repeat' apply And.intro) <;> first | assumption | rfl | omega | trivial)))) (by (rw [x1e]; exact g)) (by (first | assumption | omega | ((try dsimp only [jt2, jt3, jt4]); first | omega | (simp (disch := omega) only [jst_eq, jst_ne, jst_ni, jst_o, jI_i, jcpy_out, w32_id, jdiv_nn, jshr_k, jand_255] <;> first | done | omega | assumption)) | (intros; simp (disch := omega) only [jst_eq, jst_ne, jst_ni, jst_o, jI_i, jcpy_out, w32_id, jdiv_nn, *] <;> first | done | omega) | (intros; simp (disch := omega) only [jst_eq, jst_ne, jst_ni, jst_o, jI_i, jcpy_out, w32_id, jdiv_nn] at * <;> first | done | omega | assumption) | (intros; first | rfl | (exfalso; omega) | ((repeat' apply And.intro) <;> first | assumption | rfl | omega | trivial))))) (fun o2 r1 => ?_)
  try dsimp only [Sum.elim_inl, Sum.elim_inr, jt2, jt3, jt4, jt5, jt6, jt7, jt8] at r1
  obtain ⟨mk1, fs1, bs1⟩ := r1
  try simp (disch := omega) only [jst_eq, jst_ne, jst_ni, jI_i, jcmp_lt, jcmp_gt, w32_id, jcpy_out, Sum.elim_inl, Sum.elim_inr, jt2, jt3, jt4, jt5, jt6, jt7, jt8] at mk1
  try simp (disch := omega) only [jst_eq, jst_ne, jst_ni, jI_i, jcmp_lt, jcmp_gt, w32_id, jcpy_out, Sum.elim_inl, Sum.elim_inr, jt2, jt3, jt4, jt5, jt6, jt7, jt8] at fs1
  try simp (disch := omega) only [jst_eq, jst_ne, jst_ni, jI_i, jcmp_lt, jcmp_gt, w32_id, jcpy_out, Sum.elim_inl, Sum.elim_inr, jt2, jt3, jt4, jt5, jt6, jt7, jt8] at bs1
  have EN2 := enX_f3 en e0 fs1
  have T2 := tbX_f3 t fs1
  refine OK_jb (vX1_operandsOf (nA := E.1.1) (cA := E.1.2.1) (oA := E.1.2.2.1) (wA := E.1.2.2.2.1) (kA := E.1.2.2.2.2) _ (by exact EN2.1) (by (first | assumption | omega | ((try dsimp only [jt2, jt3, jt4]); first | omega | (simp (disch := omega) only [jst_eq, jst_ne, jst_ni, jst_o, jI_i, jcpy_out, w32_id, jdiv_nn, jshr_k, jand_255] <;> first | done | omega | assumption)) | (intros; simp (disch := omega) only [jst_eq, jst_ne, jst_ni, jst_o, jI_i, jcpy_out, w32_id, jdiv_nn, *] <;> first | done | omega) | (intros; simp (disch := omega) only [jst_eq, jst_ne, jst_ni, jst_o, jI_i, jcpy_out, w32_id, jdiv_nn] at * <;> first | done | omega | assumption) | (intros; first | rfl | (exfalso; omega) | ((repeat' apply And.intro) <;> first | assumption | rfl | omega | trivial))))) (fun v5 r2 => ?_)
  try dsimp only [Sum.elim_inl, Sum.elim_inr, jt2, jt3, jt4, jt5, jt6, jt7, jt8] at r2
  have v2 := r2
  clear r2
  try simp (disch := omega) only [jst_eq, jst_ne, jst_ni, jI_i, jcmp_lt, jcmp_gt, w32_id, jcpy_out, Sum.elim_inl, Sum.elim_inr, jt2, jt3, jt4, jt5, jt6, jt7, jt8] at v2
  have v5e : v5 = E.1.2.2.1 ac := by { rw [← x1e]; assumption }
  refine OK_jb (vX1_kindOf (nA := E.1.1) (cA := E.1.2.1) (oA := E.1.2.2.1) (wA := E.1.2.2.2.1) (kA := E.1.2.2.2.2) _ _ (by exact EN2.1) (by exact ⟨by omega, by omega, by omega, by rw [x1e]; omega⟩)) (fun v7 r3 => ?_)
  try dsimp only [Sum.elim_inl, Sum.elim_inr, jt2, jt3, jt4, jt5, jt6, jt7, jt8] at r3
  have v3 := r3
  clear r3
  try simp (disch := omega) only [jst_eq, jst_ne, jst_ni, jI_i, jcmp_lt, jcmp_gt, w32_id, jcpy_out, Sum.elim_inl, Sum.elim_inr, jt2, jt3, jt4, jt5, jt6, jt7, jt8] at v3
  have v7e : v7 = eK E ac (eO E ac) := by { rw [ek, ← v5e, ← x1e]; assumption }
  refine OK_jb2 (vX5_place (N := N) (pts := pts) (kd := kd) (wt := wt) (hd := hd) (op := op) (vl := vl) (u := mkV E W vl ac a4 a5 a6) _ _ _ _ _ _ (by exact T2) (by (rw [← x1e]; exact mk1))) (fun v9 h10 r4 => ?_)
  try dsimp only [Sum.elim_inl, Sum.elim_inr, jt2, jt3, jt4, jt5, jt6, jt7, jt8] at r4
  have pl4 := r4
  clear r4
  try simp (disch := omega) only [jst_eq, jst_ne, jst_ni, jI_i, jcmp_lt, jcmp_gt, w32_id, jcpy_out, Sum.elim_inl, Sum.elim_inr, jt2, jt3, jt4, jt5, jt6, jt7, jt8] at pl4
  refine OK_if (fun c1 => ?_) (fun c1 => ?_)
  · skip
    try simp (disch := omega) only [jst_eq, jst_ne, jst_ni, jI_i, jcmp_lt, jcmp_gt, w32_id, jcpy_out, Sum.elim_inl, Sum.elim_inr, jt2, jt3, jt4, jt5, jt6, jt7, jt8] at c1
    refine OK_some ?_
    try dsimp only [Sum.elim_inl, Sum.elim_inr, jt2, jt3, jt4, jt5, jt6, jt7, jt8]
    (refine ⟨o2, fs1, bs1, ?_⟩; rcases pl4 with p | p | p; { exact absurd p.1 (by omega) }; { exact Or.inr ⟨by rw [← v7e]; exact p.1, Or.inl ⟨p.2.1, p.2.2.1, p.2.2.2⟩⟩ }; { exact absurd p.2.2.1 (by omega) }) -- o15 e1
  · skip
    try simp (disch := omega) only [jst_eq, jst_ne, jst_ni, jI_i, jcmp_lt, jcmp_gt, w32_id, jcpy_out, Sum.elim_inl, Sum.elim_inr, jt2, jt3, jt4, jt5, jt6, jt7, jt8] at c1
    refine OK_jb (vX5_note _ _ _ _ _ (by (first | assumption | omega | ((try dsimp only [jt2, jt3, jt4]); first | omega | (simp (disch := omega) only [jst_eq, jst_ne, jst_ni, jst_o, jI_i, jcpy_out, w32_id, jdiv_nn, jshr_k, jand_255] <;> first | done | omega | assumption)) | (intros; simp (disch := omega) only [jst_eq, jst_ne, jst_ni, jst_o, jI_i, jcpy_out, w32_id, jdiv_nn, *] <;> first | done | omega) | (intros; simp (disch := omega) only [jst_eq, jst_ne, jst_ni, jst_o, jI_i, jcpy_out, w32_id, jdiv_nn] at * <;> first | done | omega | assumption) | (intros; first | rfl | (exfalso; omega) | ((repeat' apply And.intro) <;> first | assumption | rfl | omega | trivial))))) (fun h13 r5 => ?_)
    try dsimp only [Sum.elim_inl, Sum.elim_inr, jt2, jt3, jt4, jt5, jt6, jt7, jt8] at r5
    have nt5 := r5
    clear r5
    try simp (disch := omega) only [jst_eq, jst_ne, jst_ni, jI_i, jcmp_lt, jcmp_gt, w32_id, jcpy_out, Sum.elim_inl, Sum.elim_inr, jt2, jt3, jt4, jt5, jt6, jt7, jt8] at nt5
    refine OK_some ?_
    try dsimp only [Sum.elim_inl, Sum.elim_inr, jt2, jt3, jt4, jt5, jt6, jt7, jt8]
    (refine ⟨o2, fs1, bs1, ?_⟩; rcases pl4 with p | p | p; { exact Or.inl ⟨p.1, p.2.1, by rw [← v7e]; exact p.2.2.1, p.2.2.2.1, by rw [nt5, p.2.2.2.2]⟩ }; { exact absurd p.2.2.1 (by omega) }; { exact Or.inr ⟨by rw [← v7e]; exact p.1, Or.inr ⟨p.2.1, p.2.2.1, h10, p.2.2.2.1, p.2.2.2.2.1, by rw [← v7e]; exact p.2.2.2.2.2, by rw [nt5, p.2.2.1]⟩⟩ }) -- o17 e2

