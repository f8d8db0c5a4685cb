/-! m: a loop's terms worked out; a state is met -/
def wkM (h : AH) (E : EV) (Rf : Int → TR) (W : Int → Int → Int → VW) : Prop := enuM h E Rf W (fun _ _ _ => 0) (-1) ∧ h 454 21 = -1 ∧ -9223372036854775808 ≤ h 454 20 ∧ h 454 20 < 9223372036854775808
def bd20 (h : AH) : Prop := -9223372036854775808 ≤ h 454 20 ∧ h 454 20 < 9223372036854775808
theorem wkM_f {h h' : AH} {E : EV} {Rf : Int → TR} {W : Int → Int → Int → VW} (w : wkM h E Rf W) (b : bd20 h') (g : ∀ a s, (a = 454 ∧ (s = 5 ∨ s = 21)) ∨ (455 ≤ a ∧ a ≤ 465) → h' a s = h a s) : wkM h' E Rf W := ⟨enuM_f2 w.1 (g _ _ (by omega)) (fun a s a0 a1 => g _ _ (by omega)), by rw [g _ _ (by omega)]; exact w.2.1, b⟩
/-- a term at a node -/
def atM (h : AH) (R : TR) (d : Int) : Prop := vwM h (-1) 0 R d 0
theorem atM_f {h h' : AH} {R : TR} {d : Int} (a : atM h R d) (g : ∀ a s, 460 ≤ a → a ≤ 465 → h' a s = h a s) : atM h' R d := vwM_fr g a
theorem ans_M (d a b c g : Int) {h : AH} {E : EV} {Rf : Int → TR} {W : Int → Int → Int → VW} {np k : Int} {kp : Int → Int} {R : TR} (w : wkM h E Rf W) (t : atM h R d) (ty : tmW E np kp R k) (hp : (∀ n, 0 ≤ n → n < np → vlR (kp n) (p3 a b c n)) ∧ 0 ≤ np ∧ np ≤ 3) : OK (gX14_answer d a b c g h) (fun r => jt2 r fun v h' => v = evL W R (p3 a b c) ∧ (∀ a s, ¬ (a = 454 ∧ s = 20) → h' a s = h a s) ∧ bd20 h') := by
  refine OK_mono (vX14_answer (E := E) (Rf := Rf) (W := W) (f := fun _ _ _ => 0) (w := -1) (wv := 0) (np := np) (kp := kp) (hl := fun _ => 0) (R := R) d a b c g ⟨w.1, t, ty.1, w.2.1, Or.inl rfl, hp.1, hp.2.1, hp.2.2, Or.inl (cgT_ns ty.2.2.1), w.2.2⟩ ty.2.2.2 (fun _ _ _ => ⟨Int.le_refl _, by decide⟩)) (fun r q => ?_)
  obtain ⟨v, h'⟩ := r
  obtain ⟨q1, q2, q3⟩ := q
  refine ⟨q1.trans (evL_eq ty.2.2.1 (fun _ _ _ => rfl)), q3, ?_⟩
  unfold bd20
  rw [q2]
  exact w64_r _
theorem vX14_step_j61 (a6 : Int) (a7 : Int) (t0 : Int) {h : AH} : OK (gX14_step_j61 a6 a7 t0 h) (fun r => jt2 r fun v h' => ((v = 1 ∧ a6 ≠ -1 ∧ a7 ≠ -1 ∧ t0 ≠ -1) ∨ (v = 0 ∧ (a6 = -1 ∨ a7 = -1 ∨ t0 = -1))) ∧ (h' 454 93 = a6 ∧ h' 454 94 = a7 ∧ h' 454 95 = t0) ∧ (∀ a s, ¬ (a = 454 ∧ (s = 93 ∨ s = 94 ∨ s = 95)) → h' a s = h a s)) := by
  unfold gX14_step_j61
  refine OK_jl ?_
  refine OK_jl ?_
  refine OK_jl ?_
  have C14 : jst (jst (jst h 454 93 a6) 454 94 a7) 454 95 t0 454 93 = a6 ∧ jst (jst (jst h 454 93 a6) 454 94 a7) 454 95 t0 454 94 = a7 ∧ jst (jst (jst h 454 93 a6) 454 94 a7) 454 95 t0 454 95 = t0 := ⟨by { rw [jst_ni (by decide), jst_ni (by decide), jst_eq] }, by { rw [jst_ni (by decide), jst_eq] }, jst_eq⟩
  have F14 : ∀ a s, ¬ (a = 454 ∧ (s = 93 ∨ s = 94 ∨ s = 95)) → jst (jst (jst h 454 93 a6) 454 94 a7) 454 95 t0 a s = h a s := fun a s y => by { rw [jst_o (by omega), jst_o (by omega), jst_o (by omega)] }
  refine OK_if (fun c1 => ?_) (fun c1 => ?_)
  · skip
    try simp (disch := omega) only [jst_eq, jst_ne, jst_ni, jI_i, jcmp_lt, jcmp_gt, w32_id, jcpy_out, Sum.elim_inl, Sum.elim_inr, jt2, jt3, jt4, jt5, jt6, jt7, jt8] at c1
    refine OK_some ?_
    try dsimp only [Sum.elim_inl, Sum.elim_inr, jt2, jt3, jt4, jt5, jt6, jt7, jt8]
    try dsimp only [Sum.elim_inl, Sum.elim_inr, jt2, jt3, jt4, jt5, jt6, jt7, jt8]
    refine ⟨?_, ?_, ?_⟩
    · (first | assumption | omega | ((try dsimp only [jt2, jt3, jt4]); first | omega | (simp (disch := omega) only [jst_eq, jst_ne, jst_ni, jst_o, jI_i, jcpy_out, w32_id, jdiv_nn, jshr_k, jand_255] <;> first | done | omega | assumption)) | (intros; simp (disch := omega) only [jst_eq, jst_ne, jst_ni, jst_o, jI_i, jcpy_out, w32_id, jdiv_nn, *] <;> first | done | omega) | (intros; simp (disch := omega) only [jst_eq, jst_ne, jst_ni, jst_o, jI_i, jcpy_out, w32_id, jdiv_nn] at * <;> first | done | omega | assumption) | (intros; first | rfl | (exfalso; omega) | ((repeat' apply And.intro) <;> first | assumption | rfl | omega | trivial))) -- o1 e1.1
    · exact C14 -- o2 e1.2
    · exact F14 -- o3 e1.3
  · skip
    try simp (disch := omega) only [jst_eq, jst_ne, jst_ni, jI_i, jcmp_lt, jcmp_gt, w32_id, jcpy_out, Sum.elim_inl, Sum.elim_inr, jt2, jt3, jt4, jt5, jt6, jt7, jt8] at c1
    refine OK_if (fun c2 => ?_) (fun c2 => ?_)
    · skip
      try simp (disch := omega) only [jst_eq, jst_ne, jst_ni, jI_i, jcmp_lt, jcmp_gt, w32_id, jcpy_out, Sum.elim_inl, Sum.elim_inr, jt2, jt3, jt4, jt5, jt6, jt7, jt8] at c2
      refine OK_some ?_
      try dsimp only [Sum.elim_inl, Sum.elim_inr, jt2, jt3, jt4, jt5, jt6, jt7, jt8]
      try dsimp only [Sum.elim_inl, Sum.elim_inr, jt2, jt3, jt4, jt5, jt6, jt7, jt8]
      refine ⟨?_, ?_, ?_⟩
      · (first | assumption | omega | ((try dsimp only [jt2, jt3, jt4]); first | omega | (simp (disch := omega) only [jst_eq, jst_ne, jst_ni, jst_o, jI_i, jcpy_out, w32_id, jdiv_nn, jshr_k, jand_255] <;> first | done | omega | assumption)) | (intros; simp (disch := omega) only [jst_eq, jst_ne, jst_ni, jst_o, jI_i, jcpy_out, w32_id, jdiv_nn, *] <;> first | done | omega) | (intros; simp (disch := omega) only [jst_eq, jst_ne, jst_ni, jst_o, jI_i, jcpy_out, w32_id, jdiv_nn] at * <;> first | done | omega | assumption) | (intros; first | rfl | (exfalso; omega) | ((repeat' apply And.intro) <;> first | assumption | rfl | omega | trivial))) -- o4 e2.1
      · exact C14 -- o5 e2.2
      · exact F14 -- o6 e2.3
    · skip
      try simp (disch := omega) only [jst_eq, jst_ne, jst_ni, jI_i, jcmp_lt, jcmp_gt, w32_id, jcpy_out, Sum.elim_inl, Sum.elim_inr, jt2, jt3, jt4, jt5, jt6, jt7, jt8] at c2
      refine OK_if (fun c3 => ?_) (fun c3 => ?_)
      · skip
        try simp (disch := omega) only [jst_eq, jst_ne, jst_ni, jI_i, jcmp_lt, jcmp_gt, w32_id, jcpy_out, Sum.elim_inl, Sum.elim_inr, jt2, jt3, jt4, jt5, jt6, jt7, jt8] at c3
        refine OK_some ?_
        try dsimp only [Sum.elim_inl, Sum.elim_inr, jt2, jt3, jt4, jt5, jt6, jt7, jt8]
        try dsimp only [Sum.elim_inl, Sum.elim_inr, jt2, jt3, jt4, jt5, jt6, jt7, jt8]
        refine ⟨?_, ?_, ?_⟩
        · (first | assumption | omega | ((try dsimp only [jt2, jt3, jt4]); first | omega | (simp (disch := omega) only [jst_eq, jst_ne, jst_ni, jst_o, jI_i, jcpy_out, w32_id, jdiv_nn, jshr_k, jand_255] <;> first | done | omega | assumption)) | (intros; simp (disch := omega) only [jst_eq, jst_ne, jst_ni, jst_o, jI_i, jcpy_out, w32_id, jdiv_nn, *] <;> first | done | omega) | (intros; simp (disch := omega) only [jst_eq, jst_ne, jst_ni, jst_o, jI_i, jcpy_out, w32_id, jdiv_nn] at * <;> first | done | omega | assumption) | (intros; first | rfl | (exfalso; omega) | ((repeat' apply And.intro) <;> first | assumption | rfl | omega | trivial))) -- o7 e3.1
        · exact C14 -- o8 e3.2
        · exact F14 -- o9 e3.3
      · skip
        try simp (disch := omega) only [jst_eq, jst_ne, jst_ni, jI_i, jcmp_lt, jcmp_gt, w32_id, jcpy_out, Sum.elim_inl, Sum.elim_inr, jt2, jt3, jt4, jt5, jt6, jt7, jt8] at c3
        refine OK_some ?_
        try dsimp only [Sum.elim_inl, Sum.elim_inr, jt2, jt3, jt4, jt5, jt6, jt7, jt8]
        try dsimp only [Sum.elim_inl, Sum.elim_inr, jt2, jt3, jt4, jt5, jt6, jt7, jt8]
        refine ⟨?_, ?_, ?_⟩
        · (first | assumption | omega | ((try dsimp only [jt2, jt3, jt4]); first | omega | (simp (disch := omega) only [jst_eq, jst_ne, jst_ni, jst_o, jI_i, jcpy_out, w32_id, jdiv_nn, jshr_k, jand_255] <;> first | done | omega | assumption)) | (intros; simp (disch := omega) only [jst_eq, jst_ne, jst_ni, jst_o, jI_i, jcpy_out, w32_id, jdiv_nn, *] <;> first | done | omega) | (intros; simp (disch := omega) only [jst_eq, jst_ne, jst_ni, jst_o, jI_i, jcpy_out, w32_id, jdiv_nn] at * <;> first | done | omega | assumption) | (intros; first | rfl | (exfalso; omega) | ((repeat' apply And.intro) <;> first | assumption | rfl | omega | trivial))) -- o10 e4.1
        · exact C14 -- o11 e4.2
        · exact F14 -- o12 e4.3
/-- terms of variables, all worked out -/
def alS (W : Int → Int → Int → VW) (m : Int) (Rr : Int → TR) (p : Int → Int) (k : Int) : Int := if 0 ≤ k ∧ k < m then evL W (Rr k) p else 0
def s3M (h : AH) (s : Int → Int) : Prop := h 454 93 = s 0 ∧ h 454 94 = s 1 ∧ h 454 95 = s 2
theorem vX14_step (a1 : Int) (a2 : Int) (a3 : Int) (a4 : Int) (a5 : Int) {h : AH} {E : EV} {Rf : Int → TR} {W : Int → Int → Int → VW} {np : Int} {kp kq : Int → Int} {Rr : Int → TR} (w : wkM h E Rf W) (ra : h a1 (-2) = 101 ∧ h a1 (-1) = 4 ∧ a1 ≠ 454) (n : 1 ≤ a2 ∧ a2 ≤ 3) (tm : ∀ k, 0 ≤ k → k < a2 → atM h (Rr k) (h a1 k) ∧ tmW E np kp (Rr k) (kq k)) (hp : (∀ n, 0 ≤ n → n < np → vlR (kp n) (p3 a3 a4 a5 n)) ∧ 0 ≤ np ∧ np ≤ 3) : OK (gX14_step a1 a2 a3 a4 a5 h) (fun r => jt2 r fun v h' => ((v = 1 ∧ ∀ k, 0 ≤ k → k < a2 → alS W a2 Rr (p3 a3 a4 a5) k ≠ -1) ∨ (v = 0 ∧ ∃ k, 0 ≤ k ∧ k < a2 ∧ alS W a2 Rr (p3 a3 a4 a5) k = -1)) ∧ (s3M h' (alS W a2 Rr (p3 a3 a4 a5))) ∧ (∀ a s, ¬ (a = 454 ∧ (s = 20 ∨ s = 93 ∨ s = 94 ∨ s = 95)) → h' a s = h a s) ∧ (bd20 h')) := by
  have T0 := tm 0 (by decide) (by omega)
  have S0 : alS W a2 Rr (p3 a3 a4 a5) 0 = evL W (Rr 0) (p3 a3 a4 a5) := if_pos (by omega)
  unfold gX14_step
  refine OK_jg (by (first | (exact ⟨ra.1, by unfold jI; rw [ra.2.1]; omega⟩) | (exact ⟨R3.1, by unfold jI; rw [R3.2.1]; omega⟩) | (exact ⟨R7.1, by unfold jI; rw [R7.2.1]; omega⟩) | (first | assumption | omega | ((try dsimp only [jt2, jt3, jt4]); first | omega | (simp (disch := omega) only [jst_eq, jst_ne, jst_ni, jst_o, jI_i, jcpy_out, w32_id, jdiv_nn, jshr_k, jand_255] <;> first | done | omega | assumption)) | (intros; simp (disch := omega) only [jst_eq, jst_ne, jst_ni, jst_o, jI_i, jcpy_out, w32_id, jdiv_nn, *] <;> first | done | omega) | (intros; simp (disch := omega) only [jst_eq, jst_ne, jst_ni, jst_o, jI_i, jcpy_out, w32_id, jdiv_nn] at * <;> first | done | omega | assumption) | (intros; first | rfl | (exfalso; omega) | ((repeat' apply And.intro) <;> first | assumption | rfl | omega | trivial))))) ?_ -- o1
  refine OK_jb2 (ans_M (E := E) (Rf := Rf) (W := W) (np := np) (kp := kp) _ _ _ _ _ (by exact w) (by exact T0.1) (by exact T0.2) (by exact hp)) (fun v2 h3 r1 => ?_)
  try dsimp only [Sum.elim_inl, Sum.elim_inr, jt2, jt3, jt4, jt5, jt6, jt7, jt8] at r1
  obtain ⟨ev1, fs1, bs1⟩ := r1
  try simp (disch := omega) only [jst_eq, jst_ne, jst_ni, jI_i, jcmp_lt, jcmp_gt, w32_id, jcpy_out, Sum.elim_inl, Sum.elim_inr, jt2, jt3, jt4, jt5, jt6, jt7, jt8] at ev1
  try simp (disch := omega) only [jst_eq, jst_ne, jst_ni, jI_i, jcmp_lt, jcmp_gt, w32_id, jcpy_out, Sum.elim_inl, Sum.elim_inr, jt2, jt3, jt4, jt5, jt6, jt7, jt8] at fs1
  try simp (disch := omega) only [jst_eq, jst_ne, jst_ni, jI_i, jcmp_lt, jcmp_gt, w32_id, jcpy_out, Sum.elim_inl, Sum.elim_inr, jt2, jt3, jt4, jt5, jt6, jt7, jt8] at bs1
  have R3 : h3 a1 (-2) = 101 ∧ h3 a1 (-1) = 4 ∧ h3 a1 1 = h a1 1 ∧ h3 a1 2 = h a1 2 := by { rw [fs1 _ _ (by omega), fs1 _ _ (by omega), fs1 _ _ (by omega), fs1 _ _ (by omega)]; exact ⟨ra.1, ra.2.1, rfl, rfl⟩ }
  have W3 : wkM h3 E Rf W := wkM_f w bs1 (fun a s y => fs1 a s (by omega))
  have A3 : ∀ k, 0 ≤ k → k < a2 → atM h3 (Rr k) (h a1 k) := fun k k0 k1 => atM_f (tm k k0 k1).1 (fun a s a0 a1 => fs1 a s (by omega))
  refine OK_if (fun c1 => ?_) (fun c1 => ?_)
  · skip
    try simp (disch := omega) only [jst_eq, jst_ne, jst_ni, jI_i, jcmp_lt, jcmp_gt, w32_id, jcpy_out, Sum.elim_inl, Sum.elim_inr, jt2, jt3, jt4, jt5, jt6, jt7, jt8] at c1
    have Z1 : alS W a2 Rr (p3 a3 a4 a5) 1 = 0 ∧ alS W a2 Rr (p3 a3 a4 a5) 2 = 0 := ⟨if_neg (by omega), if_neg (by omega)⟩
    unfold gX14_step_j37
    refine OK_if (fun c2 => ?_) (fun c2 => ?_)
    · skip
      try simp (disch := omega) only [jst_eq, jst_ne, jst_ni, jI_i, jcmp_lt, jcmp_gt, w32_id, jcpy_out, Sum.elim_inl, Sum.elim_inr, jt2, jt3, jt4, jt5, jt6, jt7, jt8] at c2
      refine OK_mono (vX14_step_j61 _ _ _) (fun r r2 => ?_)
      obtain ⟨y1, y2⟩ := r
      try dsimp only [Sum.elim_inl, Sum.elim_inr, jt2, jt3, jt4, jt5, jt6, jt7, jt8] at r2
      obtain ⟨sv2, sc2, fr2⟩ := r2
      try simp (disch := omega) only [jst_eq, jst_ne, jst_ni, jI_i, jcmp_lt, jcmp_gt, w32_id, jcpy_out, Sum.elim_inl, Sum.elim_inr, jt2, jt3, jt4, jt5, jt6, jt7, jt8] at sv2
      try simp (disch := omega) only [jst_eq, jst_ne, jst_ni, jI_i, jcmp_lt, jcmp_gt, w32_id, jcpy_out, Sum.elim_inl, Sum.elim_inr, jt2, jt3, jt4, jt5, jt6, jt7, jt8] at sc2
      try simp (disch := omega) only [jst_eq, jst_ne, jst_ni, jI_i, jcmp_lt, jcmp_gt, w32_id, jcpy_out, Sum.elim_inl, Sum.elim_inr, jt2, jt3, jt4, jt5, jt6, jt7, jt8] at fr2
      try dsimp only [Sum.elim_inl, Sum.elim_inr, jt2, jt3, jt4, jt5, jt6, jt7, jt8]
      try dsimp only [Sum.elim_inl, Sum.elim_inr, jt2, jt3, jt4, jt5, jt6, jt7, jt8]
      refine ⟨?_, ?_, ?_, ?_⟩
      · (rcases sv2 with z | z; { left; refine ⟨z.1, fun k k0 k1 => ?_⟩; rw [show k = 0 by omega]; omega }; { right; refine ⟨z.1, 0, by decide, by omega, ?_⟩; omega }) -- o6 e1.1
      · (unfold s3M; obtain ⟨x1, x2, x3⟩ := sc2; omega) -- o7 e1.2
      · exact fun a s y => by rw [fr2 a s (by omega)]; exact fs1 a s (by omega) -- o8 e1.3
      · (unfold bd20; rw [fr2 _ _ (by omega)]; exact bs1) -- o9 e1.4
    · skip
      try simp (disch := omega) only [jst_eq, jst_ne, jst_ni, jI_i, jcmp_lt, jcmp_gt, w32_id, jcpy_out, Sum.elim_inl, Sum.elim_inr, jt2, jt3, jt4, jt5, jt6, jt7, jt8] at c2
      exfalso
      omega
  · skip
    try simp (disch := omega) only [jst_eq, jst_ne, jst_ni, jI_i, jcmp_lt, jcmp_gt, w32_id, jcpy_out, Sum.elim_inl, Sum.elim_inr, jt2, jt3, jt4, jt5, jt6, jt7, jt8] at c1
    rw [R3.2.2.1]
    refine OK_jg (by (first | (exact ⟨ra.1, by unfold jI; rw [ra.2.1]; omega⟩) | (exact ⟨R3.1, by unfold jI; rw [R3.2.1]; omega⟩) | (exact ⟨R7.1, by unfold jI; rw [R7.2.1]; omega⟩) | (first | assumption | omega | ((try dsimp only [jt2, jt3, jt4]); first | omega | (simp (disch := omega) only [jst_eq, jst_ne, jst_ni, jst_o, jI_i, jcpy_out, w32_id, jdiv_nn, jshr_k, jand_255] <;> first | done | omega | assumption)) | (intros; simp (disch := omega) only [jst_eq, jst_ne, jst_ni, jst_o, jI_i, jcpy_out, w32_id, jdiv_nn, *] <;> first | done | omega) | (intros; simp (disch := omega) only [jst_eq, jst_ne, jst_ni, jst_o, jI_i, jcpy_out, w32_id, jdiv_nn] at * <;> first | done | omega | assumption) | (intros; first | rfl | (exfalso; omega) | ((repeat' apply And.intro) <;> first | assumption | rfl | omega | trivial))))) ?_ -- o10
    refine OK_jb2 (ans_M (E := E) (Rf := Rf) (W := W) (np := np) (kp := kp) _ _ _ _ _ (by exact W3) (by exact A3 1 (by decide) (by omega)) (by exact (tm 1 (by decide) (by omega)).2) (by exact hp)) (fun v6 h7 r3 => ?_)
    try dsimp only [Sum.elim_inl, Sum.elim_inr, jt2, jt3, jt4, jt5, jt6, jt7, jt8] at r3
    obtain ⟨ev3, fs3, bs3⟩ := r3
    try simp (disch := omega) only [jst_eq, jst_ne, jst_ni, jI_i, jcmp_lt, jcmp_gt, w32_id, jcpy_out, Sum.elim_inl, Sum.elim_inr, jt2, jt3, jt4, jt5, jt6, jt7, jt8] at ev3
    try simp (disch := omega) only [jst_eq, jst_ne, jst_ni, jI_i, jcmp_lt, jcmp_gt, w32_id, jcpy_out, Sum.elim_inl, Sum.elim_inr, jt2, jt3, jt4, jt5, jt6, jt7, jt8] at fs3
    try simp (disch := omega) only [jst_eq, jst_ne, jst_ni, jI_i, jcmp_lt, jcmp_gt, w32_id, jcpy_out, Sum.elim_inl, Sum.elim_inr, jt2, jt3, jt4, jt5, jt6, jt7, jt8] at bs3
    have S1 : alS W a2 Rr (p3 a3 a4 a5) 1 = evL W (Rr 1) (p3 a3 a4 a5) := if_pos (by omega)
    have R7 : h7 a1 (-2) = 101 ∧ h7 a1 (-1) = 4 ∧ h7 a1 2 = h a1 2 := by { rw [fs3 _ _ (by omega), fs3 _ _ (by omega), fs3 _ _ (by omega)]; exact ⟨R3.1, R3.2.1, R3.2.2.2⟩ }
    unfold gX14_step_j37
    refine OK_if (fun c3 => ?_) (fun c3 => ?_)
    · skip
      try simp (disch := omega) only [jst_eq, jst_ne, jst_ni, jI_i, jcmp_lt, jcmp_gt, w32_id, jcpy_out, Sum.elim_inl, Sum.elim_inr, jt2, jt3, jt4, jt5, jt6, jt7, jt8] at c3
      have Z2 : alS W a2 Rr (p3 a3 a4 a5) 2 = 0 := if_neg (by omega)
      refine OK_mono (vX14_step_j61 _ _ _) (fun r r4 => ?_)
      obtain ⟨y3, y4⟩ := r
      try dsimp only [Sum.elim_inl, Sum.elim_inr, jt2, jt3, jt4, jt5, jt6, jt7, jt8] at r4
      obtain ⟨sv4, sc4, fr4⟩ := r4
      try simp (disch := omega) only [jst_eq, jst_ne, jst_ni, jI_i, jcmp_lt, jcmp_gt, w32_id, jcpy_out, Sum.elim_inl, Sum.elim_inr, jt2, jt3, jt4, jt5, jt6, jt7, jt8] at sv4
      try simp (disch := omega) only [jst_eq, jst_ne, jst_ni, jI_i, jcmp_lt, jcmp_gt, w32_id, jcpy_out, Sum.elim_inl, Sum.elim_inr, jt2, jt3, jt4, jt5, jt6, jt7, jt8] at sc4
      try simp (disch := omega) only [jst_eq, jst_ne, jst_ni, jI_i, jcmp_lt, jcmp_gt, w32_id, jcpy_out, Sum.elim_inl, Sum.elim_inr, jt2, jt3, jt4, jt5, jt6, jt7, jt8] at fr4
      try dsimp only [Sum.elim_inl, Sum.elim_inr, jt2, jt3, jt4, jt5, jt6, jt7, jt8]
      try dsimp only [Sum.elim_inl, Sum.elim_inr, jt2, jt3, jt4, jt5, jt6, jt7, jt8]
      refine ⟨?_, ?_, ?_, ?_⟩
      · (rcases sv4 with z | z; { left; refine ⟨z.1, fun k k0 k1 => ?_⟩; rcases (show k = 0 ∨ k = 1 by omega) with e | e <;> rw [e] <;> omega }; { right; refine ⟨z.1, ?_⟩; rcases z.2 with y | y | y; { exact ⟨0, by decide, by omega, by omega⟩ }; { exact ⟨1, by decide, by omega, by omega⟩ }; { omega } }) -- o15 e2.1
      · (unfold s3M; obtain ⟨x1, x2, x3⟩ := sc4; omega) -- o16 e2.2
      · exact fun a s y => by rw [fr4 a s (by omega), fs3 a s (by omega)]; exact fs1 a s (by omega) -- o17 e2.3
      · (unfold bd20; rw [fr4 _ _ (by omega)]; exact bs3) -- o18 e2.4
    · skip
      try simp (disch := omega) only [jst_eq, jst_ne, jst_ni, jI_i, jcmp_lt, jcmp_gt, w32_id, jcpy_out, Sum.elim_inl, Sum.elim_inr, jt2, jt3, jt4, jt5, jt6, jt7, jt8] at c3
      rw [R7.2.2]
      have S2 : alS W a2 Rr (p3 a3 a4 a5) 2 = evL W (Rr 2) (p3 a3 a4 a5) := if_pos (by omega)
      refine OK_jg (by (first | (exact ⟨ra.1, by unfold jI; rw [ra.2.1]; omega⟩) | (exact ⟨R3.1, by unfold jI; rw [R3.2.1]; omega⟩) | (exact ⟨R7.1, by unfold jI; rw [R7.2.1]; omega⟩) | (first | assumption | omega | ((try dsimp only [jt2, jt3, jt4]); first | omega | (simp (disch := omega) only [jst_eq, jst_ne, jst_ni, jst_o, jI_i, jcpy_out, w32_id, jdiv_nn, jshr_k, jand_255] <;> first | done | omega | assumption)) | (intros; simp (disch := omega) only [jst_eq, jst_ne, jst_ni, jst_o, jI_i, jcpy_out, w32_id, jdiv_nn, *] <;> first | done | omega) | (intros; simp (disch := omega) only [jst_eq, jst_ne, jst_ni, jst_o, jI_i, jcpy_out, w32_id, jdiv_nn] at * <;> first | done | omega | assumption) | (intros; first | rfl | (exfalso; omega) | ((repeat' apply And.intro) <;> first | assumption | rfl | omega | trivial))))) ?_ -- o19
      refine OK_jb2 (ans_M (E := E) (Rf := Rf) (W := W) (np := np) (kp := kp) _ _ _ _ _ (by exact wkM_f W3 bs3 (fun a s y => fs3 a s (by omega))) (by exact atM_f (A3 2 (by decide) (by omega)) (fun a s a0 a1 => fs3 a s (by omega))) (by exact (tm 2 (by decide) (by omega)).2) (by exact hp)) (fun v10 h11 r5 => ?_)
      try dsimp only [Sum.elim_inl, Sum.elim_inr, jt2, jt3, jt4, jt5, jt6, jt7, jt8] at r5
      obtain ⟨ev5, fs5, bs5⟩ := r5
      try simp (disch := omega) only [jst_eq, jst_ne, jst_ni, jI_i, jcmp_lt, jcmp_gt, w32_id, jcpy_out, Sum.elim_inl, Sum.elim_inr, jt2, jt3, jt4, jt5, jt6, jt7, jt8] at ev5
      try simp (disch := omega) only [jst_eq, jst_ne, jst_ni, jI_i, jcmp_lt, jcmp_gt, w32_id, jcpy_out, Sum.elim_inl, Sum.elim_inr, jt2, jt3, jt4, jt5, jt6, jt7, jt8] at fs5
      try simp (disch := omega) only [jst_eq, jst_ne, jst_ni, jI_i, jcmp_lt, jcmp_gt, w32_id, jcpy_out, Sum.elim_inl, Sum.elim_inr, jt2, jt3, jt4, jt5, jt6, jt7, jt8] at bs5
      refine OK_mono (vX14_step_j61 _ _ _) (fun r r6 => ?_)
      obtain ⟨y5, y6⟩ := r
      try dsimp only [Sum.elim_inl, Sum.elim_inr, jt2, jt3, jt4, jt5, jt6, jt7, jt8] at r6
      obtain ⟨sv6, sc6, fr6⟩ := r6
      try simp (disch := omega) only [jst_eq, jst_ne, jst_ni, jI_i, jcmp_lt, jcmp_gt, w32_id, jcpy_out, Sum.elim_inl, Sum.elim_inr, jt2, jt3, jt4, jt5, jt6, jt7, jt8] at sv6
      try simp (disch := omega) only [jst_eq, jst_ne, jst_ni, jI_i, jcmp_lt, jcmp_gt, w32_id, jcpy_out, Sum.elim_inl, Sum.elim_inr, jt2, jt3, jt4, jt5, jt6, jt7, jt8] at sc6
      try simp (disch := omega) only [jst_eq, jst_ne, jst_ni, jI_i, jcmp_lt, jcmp_gt, w32_id, jcpy_out, Sum.elim_inl, Sum.elim_inr, jt2, jt3, jt4, jt5, jt6, jt7, jt8] at fr6
      try dsimp only [Sum.elim_inl, Sum.elim_inr, jt2, jt3, jt4, jt5, jt6, jt7, jt8]
      try dsimp only [Sum.elim_inl, Sum.elim_inr, jt2, jt3, jt4, jt5, jt6, jt7, jt8]
      refine ⟨?_, ?_, ?_, ?_⟩
      · (rcases sv6 with z | z; { left; refine ⟨z.1, fun k k0 k1 => ?_⟩; rcases (show k = 0 ∨ k = 1 ∨ k = 2 by omega) with e | e | e <;> rw [e] <;> omega }; { right; refine ⟨z.1, ?_⟩; rcases z.2 with y | y | y; { exact ⟨0, by decide, by omega, by omega⟩ }; { exact ⟨1, by decide, by omega, by omega⟩ }; { exact ⟨2, by decide, by omega, by omega⟩ } }) -- o24 e3.1
      · (unfold s3M; obtain ⟨x1, x2, x3⟩ := sc6; omega) -- o25 e3.2
      · exact fun a s y => by rw [fr6 a s (by omega), fs5 a s (by omega), fs3 a s (by omega)]; exact fs1 a s (by omega) -- o26 e3.3
      · (unfold bd20; rw [fr6 _ _ (by omega)]; exact bs5) -- o27 e3.4
/-! numbers of states at m -/
def kyS (s : Int → Int) : Int := s 0 * 256 + s 1 * 16 + s 2
theorem jor3 : ∀ x y z : Fin 16, jor (jor (jshl (x.val : Int) 8) (jshl (y.val : Int) 4)) (z.val : Int) = (x.val : Int) * 256 + (y.val : Int) * 16 + (z.val : Int) := by decide +kernel
def b15 (s : Int → Int) : Prop := (0 ≤ s 0 ∧ s 0 ≤ 15) ∧ (0 ≤ s 1 ∧ s 1 ≤ 15) ∧ 0 ≤ s 2 ∧ s 2 ≤ 15
theorem jor_k {a b c : Int} (ha : 0 ≤ a ∧ a ≤ 15) (hb : 0 ≤ b ∧ b ≤ 15) (hc : 0 ≤ c ∧ c ≤ 15) : jor (jor (jshl a 8) (jshl b 4)) c = a * 256 + b * 16 + c := by
  have h := jor3 ⟨a.toNat, by omega⟩ ⟨b.toNat, by omega⟩ ⟨c.toNat, by omega⟩
  have ea : ((a.toNat : Nat) : Int) = a := by omega
  have eb : ((b.toNat : Nat) : Int) = b := by omega
  have ec : ((c.toNat : Nat) : Int) = c := by omega
  simp only [ea, eb, ec] at h
  exact h
theorem vlS_15 {E : EV} {L : LE} {s : Int → Int} (v : vLE E L) (a : vlS L s) (z : ∀ k, ¬ (0 ≤ k ∧ k < L.2.1.1) → s k = 0) : b15 s := by
  have q : ∀ k, 0 ≤ s k ∧ s k ≤ 15 := fun k => by
    by_cases y : 0 ≤ k ∧ k < L.2.1.1
    · have t := v.2.1.2.2 k y.1 y.2
      have b := vl_bt t.1 t.2 (a k y.1 y.2)
      have := bsK_r (L.2.1.2 k)
      omega
    · rw [z k y]; decide
  exact ⟨q 0, q 1, q 2⟩
theorem kyS_i {E : EV} {L : LE} {s t : Int → Int} (v : vLE E L) (a : vlS L s ∧ ∀ k, ¬ (0 ≤ k ∧ k < L.2.1.1) → s k = 0) (b : vlS L t ∧ ∀ k, ¬ (0 ≤ k ∧ k < L.2.1.1) → t k = 0) (e : kyS s = kyS t) : s = t := by
  have q := vlS_15 v a.1 a.2
  have r := vlS_15 v b.1 b.2
  unfold b15 at q r
  unfold kyS at e
  have n3 := v.2.1
  refine funext fun k => ?_
  by_cases y : 0 ≤ k ∧ k < L.2.1.1
  · rcases (show k = 0 ∨ k = 1 ∨ k = 2 by omega) with z | z | z <;> rw [z] <;> omega
  · rw [a.2 k y, b.2 k y]
/-- what was seen of all runs, at m -/
def snM (h : AH) (L : LE) (k : Int) (l : List (Int → Int)) : Prop := (∀ s, s ∈ l → (vlS L s ∧ ∀ k, ¬ (0 ≤ k ∧ k < L.2.1.1) → s k = 0) ∧ h 816 (kyS s) = h 454 99) ∧ (∀ p, 0 ≤ p → p < 4096 → h 816 p ≤ h 454 99 ∧ (h 816 p = h 454 99 → ∃ s, s ∈ l ∧ kyS s = p)) ∧ h 454 106 = cntR l ∧ h 454 102 = k ∧ h 454 103 = lsR k l ∧ h 454 104 = gtR k l
theorem snM_f {h h' : AH} {L : LE} {k : Int} {l : List (Int → Int)} (v : ∃ E, vLE E L) (c : snM h L k l) (g : ∀ a s, (a = 454 ∧ (s = 99 ∨ s = 102 ∨ s = 103 ∨ s = 104 ∨ s = 106)) ∨ (a = 816 ∧ 0 ≤ s) → h' a s = h a s) : snM h' L k l := by
  obtain ⟨E, v⟩ := v
  obtain ⟨c1, c2, c3, c4, c5, c6⟩ := c
  have e := g 454 99 (by omega)
  refine ⟨fun s m => ?_, fun p p0 p1 => by rw [e, g 816 p (by omega)]; exact c2 p p0 p1, by rw [g _ _ (by omega)]; exact c3, by rw [g _ _ (by omega)]; exact c4, by rw [g _ _ (by omega)]; exact c5, by rw [g _ _ (by omega)]; exact c6⟩
  have q := c1 s m
  have b := vlS_15 v q.1.1 q.1.2
  unfold b15 at b
  refine ⟨q.1, ?_⟩
  rw [e, g _ _ (Or.inr ⟨rfl, by unfold kyS; omega⟩)]
  exact q.2

