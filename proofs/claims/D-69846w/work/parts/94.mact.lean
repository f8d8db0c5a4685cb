/-! m: an act of one's own is read -/
theorem fkT_h0 (P : Int) (nP kP : Int → Int) (rs : Int → Int) (oE : Int → Int) (kE : Int → Int → Int) : ∀ (t : TR), hlT t = 0 → ∀ j hc hc', fkT P nP kP rs oE kE t j hc = fkT P nP kP rs oE kE t j hc'
  | .leaf i, h, j, hc, hc' => by
    have h3 : i.1 ≠ 3 := fun z => by
      have : (if i.1 = 3 then (1 : Int) else 0) = 0 := h
      rw [if_pos z] at this; omega
    show fkI P nP rs oE i j hc = fkI P nP rs oE i j hc'
    unfold fkI
    rw [if_neg h3, if_neg h3]
  | .branch b s r, h, j, hc, hc' => by
    have e : hlT s + hlT r = 0 := h
    have a := hlT_0 s
    have c := hlT_0 r
    show min (fkT P nP kP rs oE kE s 0 hc) (min (misK P nP kP rs oE kE (inf r) j s) (fkT P nP kP rs oE kE r (j + 1) (hc + hlT s))) = min (fkT P nP kP rs oE kE s 0 hc') (min (misK P nP kP rs oE kE (inf r) j s) (fkT P nP kP rs oE kE r (j + 1) (hc' + hlT s)))
    rw [fkT_h0 P nP kP rs oE kE s (by omega) 0 hc hc', fkT_h0 P nP kP rs oE kE r (by omega) (j + 1) (hc + hlT s) (hc' + hlT s)]
theorem rsT_h0 (P : Int) (nP kP : Int → Int) (rs : Int → Int) (oE : Int → Int) (kE : Int → Int → Int) : ∀ (t : TR), hlT t = 0 → gT t → ∀ hc hc', rsT P nP kP rs oE kE t hc = rsT P nP kP rs oE kE t hc'
  | .leaf i, h, g, hc, hc' => by
    have h3 : i.1 ≠ 3 := fun z => by
      have : (if i.1 = 3 then (1 : Int) else 0) = 0 := h
      rw [if_pos z] at this; omega
    have g4 := g.2.2.2
    show (Lean.RArray.leaf (rsI P nP kP rs oE kE i hc) : TR) = Lean.RArray.leaf (rsI P nP kP rs oE kE i hc')
    unfold rsI
    by_cases a : i.1 = 0
    · rw [if_pos a, if_pos a]
    by_cases b : i.1 = 1
    · rw [if_neg a, if_neg a, if_pos b, if_pos b]
    have c : i.1 = 2 := by omega
    rw [if_neg a, if_neg a, if_neg b, if_neg b, if_pos c, if_pos c]
  | .branch b s r, h, g, hc, hc' => by
    have e : hlT s + hlT r = 0 := h
    have a := hlT_0 s
    have c := hlT_0 r
    show (Lean.RArray.branch b (rsT P nP kP rs oE kE s hc) (rsT P nP kP rs oE kE r (hc + hlT s)) : TR) = Lean.RArray.branch b (rsT P nP kP rs oE kE s hc') (rsT P nP kP rs oE kE r (hc' + hlT s))
    rw [rsT_h0 P nP kP rs oE kE s (by omega) g.2.1 hc hc', rsT_h0 P nP kP rs oE kE r (by omega) g.2.2 (hc + hlT s) (hc' + hlT s)]
theorem fkE_h0 {E : EV} {t : TR} (h : hlT t = 0) (hc : Int) : fkE E t 0 hc = fkE E t 0 0 := fkT_h0 _ _ _ _ _ _ t h 0 hc 0
theorem rsE_h0 {E : EV} {t : TR} (h : hlT t = 0) (g : gT t) (hc : Int) : rsE E t hc = rsE E t 0 := rsT_h0 _ _ _ _ _ _ t h g hc 0
theorem vX14_isTaken_j22 (a0 : Int) : OK (gX14_isTaken_j22 a0) (fun v => (v = 0 ∨ v = 1) ∧ (v = 1 ↔ (a0 = 407354 ∨ a0 = 3217595 ∨ a0 = 3025044))) := by
  unfold gX14_isTaken_j22
  refine OK_if (fun c1 => ?_) (fun c1 => ?_)
  · skip
    try simp (disch := omega) only [jst_eq, jst_ne, jst_ni, jI_i, jcmp_lt, jcmp_gt, w32_id, jcpy_out, Sum.elim_inl, Sum.elim_inr, jt2, jt3, jt4, jt5, jt6, jt7, jt8] at c1
    refine OK_some ?_
    try dsimp only [Sum.elim_inl, Sum.elim_inr, jt2, jt3, jt4, jt5, jt6, jt7, jt8]
    (first | ((unfold jcmp at *; constructor <;> omega)) | (first | assumption | omega | ((try dsimp only [jt2, jt3, jt4]); first | omega | (simp (disch := omega) only [jst_eq, jst_ne, jst_ni, jst_o, jI_i, jcpy_out, w32_id, jdiv_nn, jshr_k, jand_255] <;> first | done | omega | assumption)) | (intros; simp (disch := omega) only [jst_eq, jst_ne, jst_ni, jst_o, jI_i, jcpy_out, w32_id, jdiv_nn, *] <;> first | done | omega) | (intros; simp (disch := omega) only [jst_eq, jst_ne, jst_ni, jst_o, jI_i, jcpy_out, w32_id, jdiv_nn] at * <;> first | done | omega | assumption) | (intros; first | rfl | (exfalso; omega) | ((repeat' apply And.intro) <;> first | assumption | rfl | omega | trivial)))) -- o1 e1
  · skip
    try simp (disch := omega) only [jst_eq, jst_ne, jst_ni, jI_i, jcmp_lt, jcmp_gt, w32_id, jcpy_out, Sum.elim_inl, Sum.elim_inr, jt2, jt3, jt4, jt5, jt6, jt7, jt8] at c1
    refine OK_if (fun c2 => ?_) (fun c2 => ?_)
    · skip
      try simp (disch := omega) only [jst_eq, jst_ne, jst_ni, jI_i, jcmp_lt, jcmp_gt, w32_id, jcpy_out, Sum.elim_inl, Sum.elim_inr, jt2, jt3, jt4, jt5, jt6, jt7, jt8] at c2
      refine OK_some ?_
      try dsimp only [Sum.elim_inl, Sum.elim_inr, jt2, jt3, jt4, jt5, jt6, jt7, jt8]
      (first | ((unfold jcmp at *; constructor <;> omega)) | (first | assumption | omega | ((try dsimp only [jt2, jt3, jt4]); first | omega | (simp (disch := omega) only [jst_eq, jst_ne, jst_ni, jst_o, jI_i, jcpy_out, w32_id, jdiv_nn, jshr_k, jand_255] <;> first | done | omega | assumption)) | (intros; simp (disch := omega) only [jst_eq, jst_ne, jst_ni, jst_o, jI_i, jcpy_out, w32_id, jdiv_nn, *] <;> first | done | omega) | (intros; simp (disch := omega) only [jst_eq, jst_ne, jst_ni, jst_o, jI_i, jcpy_out, w32_id, jdiv_nn] at * <;> first | done | omega | assumption) | (intros; first | rfl | (exfalso; omega) | ((repeat' apply And.intro) <;> first | assumption | rfl | omega | trivial)))) -- o2 e2
    · skip
      try simp (disch := omega) only [jst_eq, jst_ne, jst_ni, jI_i, jcmp_lt, jcmp_gt, w32_id, jcpy_out, Sum.elim_inl, Sum.elim_inr, jt2, jt3, jt4, jt5, jt6, jt7, jt8] at c2
      refine OK_if (fun c3 => ?_) (fun c3 => ?_)
      · skip
        try simp (disch := omega) only [jst_eq, jst_ne, jst_ni, jI_i, jcmp_lt, jcmp_gt, w32_id, jcpy_out, Sum.elim_inl, Sum.elim_inr, jt2, jt3, jt4, jt5, jt6, jt7, jt8] at c3
        refine OK_some ?_
        try dsimp only [Sum.elim_inl, Sum.elim_inr, jt2, jt3, jt4, jt5, jt6, jt7, jt8]
        (first | ((unfold jcmp at *; constructor <;> omega)) | (first | assumption | omega | ((try dsimp only [jt2, jt3, jt4]); first | omega | (simp (disch := omega) only [jst_eq, jst_ne, jst_ni, jst_o, jI_i, jcpy_out, w32_id, jdiv_nn, jshr_k, jand_255] <;> first | done | omega | assumption)) | (intros; simp (disch := omega) only [jst_eq, jst_ne, jst_ni, jst_o, jI_i, jcpy_out, w32_id, jdiv_nn, *] <;> first | done | omega) | (intros; simp (disch := omega) only [jst_eq, jst_ne, jst_ni, jst_o, jI_i, jcpy_out, w32_id, jdiv_nn] at * <;> first | done | omega | assumption) | (intros; first | rfl | (exfalso; omega) | ((repeat' apply And.intro) <;> first | assumption | rfl | omega | trivial)))) -- o3 e3
      · skip
        try simp (disch := omega) only [jst_eq, jst_ne, jst_ni, jI_i, jcmp_lt, jcmp_gt, w32_id, jcpy_out, Sum.elim_inl, Sum.elim_inr, jt2, jt3, jt4, jt5, jt6, jt7, jt8] at c3
        refine OK_some ?_
        try dsimp only [Sum.elim_inl, Sum.elim_inr, jt2, jt3, jt4, jt5, jt6, jt7, jt8]
        (first | ((unfold jcmp at *; constructor <;> omega)) | (first | assumption | omega | ((try dsimp only [jt2, jt3, jt4]); first | omega | (simp (disch := omega) only [jst_eq, jst_ne, jst_ni, jst_o, jI_i, jcpy_out, w32_id, jdiv_nn, jshr_k, jand_255] <;> first | done | omega | assumption)) | (intros; simp (disch := omega) only [jst_eq, jst_ne, jst_ni, jst_o, jI_i, jcpy_out, w32_id, jdiv_nn, *] <;> first | done | omega) | (intros; simp (disch := omega) only [jst_eq, jst_ne, jst_ni, jst_o, jI_i, jcpy_out, w32_id, jdiv_nn] at * <;> first | done | omega | assumption) | (intros; first | rfl | (exfalso; omega) | ((repeat' apply And.intro) <;> first | assumption | rfl | omega | trivial)))) -- o4 e4
theorem vX14_isTaken (a0 : Int) : OK (gX14_isTaken a0) (fun v => (v = 0 ∨ v = 1) ∧ (v = 1 ↔ (a0 = 6 ∨ a0 = 1 ∨ a0 = 2 ∨ a0 = 3 ∨ a0 = 407354 ∨ a0 = 3217595 ∨ a0 = 3025044))) := by
  unfold gX14_isTaken
  refine OK_if (fun c1 => ?_) (fun c1 => ?_)
  · skip
    try simp (disch := omega) only [jst_eq, jst_ne, jst_ni, jI_i, jcmp_lt, jcmp_gt, w32_id, jcpy_out, Sum.elim_inl, Sum.elim_inr, jt2, jt3, jt4, jt5, jt6, jt7, jt8] at c1
    refine OK_some ?_
    try dsimp only [Sum.elim_inl, Sum.elim_inr, jt2, jt3, jt4, jt5, jt6, jt7, jt8]
    (first | ((unfold jcmp at *; constructor <;> omega)) | (first | assumption | omega | ((try dsimp only [jt2, jt3, jt4]); first | omega | (simp (disch := omega) only [jst_eq, jst_ne, jst_ni, jst_o, jI_i, jcpy_out, w32_id, jdiv_nn, jshr_k, jand_255] <;> first | done | omega | assumption)) | (intros; simp (disch := omega) only [jst_eq, jst_ne, jst_ni, jst_o, jI_i, jcpy_out, w32_id, jdiv_nn, *] <;> first | done | omega) | (intros; simp (disch := omega) only [jst_eq, jst_ne, jst_ni, jst_o, jI_i, jcpy_out, w32_id, jdiv_nn] at * <;> first | done | omega | assumption) | (intros; first | rfl | (exfalso; omega) | ((repeat' apply And.intro) <;> first | assumption | rfl | omega | trivial)))) -- o1 e1
  · skip
    try simp (disch := omega) only [jst_eq, jst_ne, jst_ni, jI_i, jcmp_lt, jcmp_gt, w32_id, jcpy_out, Sum.elim_inl, Sum.elim_inr, jt2, jt3, jt4, jt5, jt6, jt7, jt8] at c1
    refine OK_if (fun c2 => ?_) (fun c2 => ?_)
    · skip
      try simp (disch := omega) only [jst_eq, jst_ne, jst_ni, jI_i, jcmp_lt, jcmp_gt, w32_id, jcpy_out, Sum.elim_inl, Sum.elim_inr, jt2, jt3, jt4, jt5, jt6, jt7, jt8] at c2
      refine OK_mono (vX14_isTaken_j22 _) (fun r r1 => ?_)
      try dsimp only [Sum.elim_inl, Sum.elim_inr, jt2, jt3, jt4, jt5, jt6, jt7, jt8] at r1
      have tv1 := r1
      clear r1
      try simp (disch := omega) only [jst_eq, jst_ne, jst_ni, jI_i, jcmp_lt, jcmp_gt, w32_id, jcpy_out, Sum.elim_inl, Sum.elim_inr, jt2, jt3, jt4, jt5, jt6, jt7, jt8] at tv1
      try dsimp only [Sum.elim_inl, Sum.elim_inr, jt2, jt3, jt4, jt5, jt6, jt7, jt8]
      (first | ((unfold jcmp at *; constructor <;> omega)) | (first | assumption | omega | ((try dsimp only [jt2, jt3, jt4]); first | omega | (simp (disch := omega) only [jst_eq, jst_ne, jst_ni, jst_o, jI_i, jcpy_out, w32_id, jdiv_nn, jshr_k, jand_255] <;> first | done | omega | assumption)) | (intros; simp (disch := omega) only [jst_eq, jst_ne, jst_ni, jst_o, jI_i, jcpy_out, w32_id, jdiv_nn, *] <;> first | done | omega) | (intros; simp (disch := omega) only [jst_eq, jst_ne, jst_ni, jst_o, jI_i, jcpy_out, w32_id, jdiv_nn] at * <;> first | done | omega | assumption) | (intros; first | rfl | (exfalso; omega) | ((repeat' apply And.intro) <;> first | assumption | rfl | omega | trivial)))) -- o2 e2
    · skip
      try simp (disch := omega) only [jst_eq, jst_ne, jst_ni, jI_i, jcmp_lt, jcmp_gt, w32_id, jcpy_out, Sum.elim_inl, Sum.elim_inr, jt2, jt3, jt4, jt5, jt6, jt7, jt8] at c2
      refine OK_if (fun c3 => ?_) (fun c3 => ?_)
      · skip
        try simp (disch := omega) only [jst_eq, jst_ne, jst_ni, jI_i, jcmp_lt, jcmp_gt, w32_id, jcpy_out, Sum.elim_inl, Sum.elim_inr, jt2, jt3, jt4, jt5, jt6, jt7, jt8] at c3
        refine OK_some ?_
        try dsimp only [Sum.elim_inl, Sum.elim_inr, jt2, jt3, jt4, jt5, jt6, jt7, jt8]
        (first | ((unfold jcmp at *; constructor <;> omega)) | (first | assumption | omega | ((try dsimp only [jt2, jt3, jt4]); first | omega | (simp (disch := omega) only [jst_eq, jst_ne, jst_ni, jst_o, jI_i, jcpy_out, w32_id, jdiv_nn, jshr_k, jand_255] <;> first | done | omega | assumption)) | (intros; simp (disch := omega) only [jst_eq, jst_ne, jst_ni, jst_o, jI_i, jcpy_out, w32_id, jdiv_nn, *] <;> first | done | omega) | (intros; simp (disch := omega) only [jst_eq, jst_ne, jst_ni, jst_o, jI_i, jcpy_out, w32_id, jdiv_nn] at * <;> first | done | omega | assumption) | (intros; first | rfl | (exfalso; omega) | ((repeat' apply And.intro) <;> first | assumption | rfl | omega | trivial)))) -- o3 e3
      · skip
        try simp (disch := omega) only [jst_eq, jst_ne, jst_ni, jI_i, jcmp_lt, jcmp_gt, w32_id, jcpy_out, Sum.elim_inl, Sum.elim_inr, jt2, jt3, jt4, jt5, jt6, jt7, jt8] at c3
        refine OK_mono (vX14_isTaken_j22 _) (fun r r2 => ?_)
        try dsimp only [Sum.elim_inl, Sum.elim_inr, jt2, jt3, jt4, jt5, jt6, jt7, jt8] at r2
        have tv2 := r2
        clear r2
        try simp (disch := omega) only [jst_eq, jst_ne, jst_ni, jI_i, jcmp_lt, jcmp_gt, w32_id, jcpy_out, Sum.elim_inl, Sum.elim_inr, jt2, jt3, jt4, jt5, jt6, jt7, jt8] at tv2
        try dsimp only [Sum.elim_inl, Sum.elim_inr, jt2, jt3, jt4, jt5, jt6, jt7, jt8]
        (first | ((unfold jcmp at *; constructor <;> omega)) | (first | assumption | omega | ((try dsimp only [jt2, jt3, jt4]); first | omega | (simp (disch := omega) only [jst_eq, jst_ne, jst_ni, jst_o, jI_i, jcpy_out, w32_id, jdiv_nn, jshr_k, jand_255] <;> first | done | omega | assumption)) | (intros; simp (disch := omega) only [jst_eq, jst_ne, jst_ni, jst_o, jI_i, jcpy_out, w32_id, jdiv_nn, *] <;> first | done | omega) | (intros; simp (disch := omega) only [jst_eq, jst_ne, jst_ni, jst_o, jI_i, jcpy_out, w32_id, jdiv_nn] at * <;> first | done | omega | assumption) | (intros; first | rfl | (exfalso; omega) | ((repeat' apply And.intro) <;> first | assumption | rfl | omega | trivial)))) -- o4 e4
/-- what a reader of m answers, whose faults' key is K -/
def resK (K t : Int) (h' : AH) : Prop := (K = 1000000 → t = 0) ∧ (K ≠ 1000000 → t = 472 ∧ h' 472 6 = K % 8 ∧ h' 472 7 = K / 8 ∧ 1 ≤ K % 8 ∧ K % 8 ≤ 6 ∧ 0 ≤ K / 8 ∧ K / 8 ≤ 2001)
def fnM (B : Int → Int) (n q K t : Int) (h' : AH) : Prop := match pE B n q with | .inl z => t = 472 ∧ MF z h' | .inr _ => resK K t h'
theorem fnM_of {B : Int → Int} {n q K t : Int} {h' : AH} (b : tO B n q ≠ 0 → t = 472 ∧ MF (tS B n q) h') (g : tO B n q = 0 → K = 1000000 → t = 0) (f : tO B n q = 0 → K ≠ 1000000 → t = 472 ∧ h' 472 6 = K % 8 ∧ h' 472 7 = K / 8 ∧ 1 ≤ K % 8 ∧ K % 8 ≤ 6 ∧ 0 ≤ K / 8 ∧ K / 8 ≤ 2001) : fnM B n q K t h' := by
  unfold fnM pE
  by_cases y : tO B n q = 0
  · rw [if_pos y]; exact ⟨g y, f y⟩
  · rw [if_neg y]; exact b y
theorem vX14_readAct_j172 {h : AH} {B : Int → Int} {n q : Int} (m : MS B n q h) (mi : MI h) : OK (gX14_readAct_j172 h) (fun r => jt2 r fun t h' => (fnM B n q (MK h) t h') ∧ (∀ a s, ¬ (a = 472 ∧ (s = 6 ∨ s = 7)) → h' a s = h a s)) := by
  unfold gX14_readAct_j172
  refine OK_jb2 (vX14_finish (B := B) (n := n) (q := q) (by (first | assumption | omega | ((try dsimp only [jt2, jt3, jt4]); first | omega | (simp (disch := omega) only [jst_eq, jst_ne, jst_ni, jst_o, jI_i, jcpy_out, w32_id, jdiv_nn, jshr_k, jand_255] <;> first | done | omega | assumption)) | (intros; simp (disch := omega) only [jst_eq, jst_ne, jst_ni, jst_o, jI_i, jcpy_out, w32_id, jdiv_nn, *] <;> first | done | omega) | (intros; simp (disch := omega) only [jst_eq, jst_ne, jst_ni, jst_o, jI_i, jcpy_out, w32_id, jdiv_nn] at * <;> first | done | omega | assumption) | (intros; first | rfl | (exfalso; omega) | ((repeat' apply And.intro) <;> first | assumption | rfl | omega | trivial)))) (by (first | assumption | omega | ((try dsimp only [jt2, jt3, jt4]); first | omega | (simp (disch := omega) only [jst_eq, jst_ne, jst_ni, jst_o, jI_i, jcpy_out, w32_id, jdiv_nn, jshr_k, jand_255] <;> first | done | omega | assumption)) | (intros; simp (disch := omega) only [jst_eq, jst_ne, jst_ni, jst_o, jI_i, jcpy_out, w32_id, jdiv_nn, *] <;> first | done | omega) | (intros; simp (disch := omega) only [jst_eq, jst_ne, jst_ni, jst_o, jI_i, jcpy_out, w32_id, jdiv_nn] at * <;> first | done | omega | assumption) | (intros; first | rfl | (exfalso; omega) | ((repeat' apply And.intro) <;> first | assumption | rfl | omega | trivial))))) (fun t68 h70 r1 => ?_)
  try dsimp only [Sum.elim_inl, Sum.elim_inr, jt2, jt3, jt4, jt5, jt6, jt7, jt8] at r1
  obtain ⟨bad1, good1, flt1, fr1⟩ := r1
  try simp (disch := omega) only [jst_eq, jst_ne, jst_ni, jI_i, jcmp_lt, jcmp_gt, w32_id, jcpy_out, Sum.elim_inl, Sum.elim_inr, jt2, jt3, jt4, jt5, jt6, jt7, jt8] at bad1
  try simp (disch := omega) only [jst_eq, jst_ne, jst_ni, jI_i, jcmp_lt, jcmp_gt, w32_id, jcpy_out, Sum.elim_inl, Sum.elim_inr, jt2, jt3, jt4, jt5, jt6, jt7, jt8] at good1
  try simp (disch := omega) only [jst_eq, jst_ne, jst_ni, jI_i, jcmp_lt, jcmp_gt, w32_id, jcpy_out, Sum.elim_inl, Sum.elim_inr, jt2, jt3, jt4, jt5, jt6, jt7, jt8] at flt1
  try simp (disch := omega) only [jst_eq, jst_ne, jst_ni, jI_i, jcmp_lt, jcmp_gt, w32_id, jcpy_out, Sum.elim_inl, Sum.elim_inr, jt2, jt3, jt4, jt5, jt6, jt7, jt8] at fr1
  refine OK_jq (fun c1 => ?_) (fun c1 => ?_)
  · skip
    refine OK_some ?_
    try dsimp only [Sum.elim_inl, Sum.elim_inr, jt2, jt3, jt4, jt5, jt6, jt7, jt8]
    try dsimp only [Sum.elim_inl, Sum.elim_inr, jt2, jt3, jt4, jt5, jt6, jt7, jt8]
    refine ⟨?_, ?_⟩
    · exact fnM_of bad1 good1 flt1 -- o3 e1.1
    · (first | assumption | omega | ((try dsimp only [jt2, jt3, jt4]); first | omega | (simp (disch := omega) only [jst_eq, jst_ne, jst_ni, jst_o, jI_i, jcpy_out, w32_id, jdiv_nn, jshr_k, jand_255] <;> first | done | omega | assumption)) | (intros; simp (disch := omega) only [jst_eq, jst_ne, jst_ni, jst_o, jI_i, jcpy_out, w32_id, jdiv_nn, *] <;> first | done | omega) | (intros; simp (disch := omega) only [jst_eq, jst_ne, jst_ni, jst_o, jI_i, jcpy_out, w32_id, jdiv_nn] at * <;> first | done | omega | assumption) | (intros; first | rfl | (exfalso; omega) | ((repeat' apply And.intro) <;> first | assumption | rfl | omega | trivial))) -- o4 e1.2
  · skip
    refine OK_some ?_
    try dsimp only [Sum.elim_inl, Sum.elim_inr, jt2, jt3, jt4, jt5, jt6, jt7, jt8]
    try dsimp only [Sum.elim_inl, Sum.elim_inr, jt2, jt3, jt4, jt5, jt6, jt7, jt8]
    refine ⟨?_, ?_⟩
    · (rw [show (0 : Int) = t68 by omega]; exact fnM_of bad1 good1 flt1) -- o5 e2.1
    · (first | assumption | omega | ((try dsimp only [jt2, jt3, jt4]); first | omega | (simp (disch := omega) only [jst_eq, jst_ne, jst_ni, jst_o, jI_i, jcpy_out, w32_id, jdiv_nn, jshr_k, jand_255] <;> first | done | omega | assumption)) | (intros; simp (disch := omega) only [jst_eq, jst_ne, jst_ni, jst_o, jI_i, jcpy_out, w32_id, jdiv_nn, *] <;> first | done | omega) | (intros; simp (disch := omega) only [jst_eq, jst_ne, jst_ni, jst_o, jI_i, jcpy_out, w32_id, jdiv_nn] at * <;> first | done | omega | assumption) | (intros; first | rfl | (exfalso; omega) | ((repeat' apply And.intro) <;> first | assumption | rfl | omega | trivial))) -- o6 e2.2
theorem vX14_readAct_j154 {h : AH} {B : Int → Int} {n q N : Int} (m : MS B n q h) (mi : MI h) (n5 : h 454 5 = N ∧ 26 ≤ N ∧ N ≤ 36) : OK (gX14_readAct_j154 h) (fun r => jt2 r fun t h' => (fnM B n q (min (MK h) (if N = 36 then 5 else 1000000)) t h') ∧ (∀ a s, ¬ (a = 454 ∧ (s = 30 ∨ s = 31)) → ¬ (a = 472 ∧ (s = 6 ∨ s = 7)) → h' a s = h a s)) := by
  unfold gX14_readAct_j154
  refine OK_if (fun c1 => ?_) (fun c1 => ?_)
  · skip
    try simp (disch := omega) only [jst_eq, jst_ne, jst_ni, jI_i, jcmp_lt, jcmp_gt, w32_id, jcpy_out, Sum.elim_inl, Sum.elim_inr, jt2, jt3, jt4, jt5, jt6, jt7, jt8] at c1
    refine OK_jb (vX14_note _ _ (by (first | assumption | omega | ((try dsimp only [jt2, jt3, jt4]); first | omega | (simp (disch := omega) only [jst_eq, jst_ne, jst_ni, jst_o, jI_i, jcpy_out, w32_id, jdiv_nn, jshr_k, jand_255] <;> first | done | omega | assumption)) | (intros; simp (disch := omega) only [jst_eq, jst_ne, jst_ni, jst_o, jI_i, jcpy_out, w32_id, jdiv_nn, *] <;> first | done | omega) | (intros; simp (disch := omega) only [jst_eq, jst_ne, jst_ni, jst_o, jI_i, jcpy_out, w32_id, jdiv_nn] at * <;> first | done | omega | assumption) | (intros; first | rfl | (exfalso; omega) | ((repeat' apply And.intro) <;> first | assumption | rfl | omega | trivial)))) (by (first | assumption | omega | ((try dsimp only [jt2, jt3, jt4]); first | omega | (simp (disch := omega) only [jst_eq, jst_ne, jst_ni, jst_o, jI_i, jcpy_out, w32_id, jdiv_nn, jshr_k, jand_255] <;> first | done | omega | assumption)) | (intros; simp (disch := omega) only [jst_eq, jst_ne, jst_ni, jst_o, jI_i, jcpy_out, w32_id, jdiv_nn, *] <;> first | done | omega) | (intros; simp (disch := omega) only [jst_eq, jst_ne, jst_ni, jst_o, jI_i, jcpy_out, w32_id, jdiv_nn] at * <;> first | done | omega | assumption) | (intros; first | rfl | (exfalso; omega) | ((repeat' apply And.intro) <;> first | assumption | rfl | omega | trivial))))) (fun h66 r1 => ?_)
    try dsimp only [Sum.elim_inl, Sum.elim_inr, jt2, jt3, jt4, jt5, jt6, jt7, jt8] at r1
    obtain ⟨m1, k1, fr1⟩ := r1
    try simp (disch := omega) only [jst_eq, jst_ne, jst_ni, jI_i, jcmp_lt, jcmp_gt, w32_id, jcpy_out, Sum.elim_inl, Sum.elim_inr, jt2, jt3, jt4, jt5, jt6, jt7, jt8] at m1
    try simp (disch := omega) only [jst_eq, jst_ne, jst_ni, jI_i, jcmp_lt, jcmp_gt, w32_id, jcpy_out, Sum.elim_inl, Sum.elim_inr, jt2, jt3, jt4, jt5, jt6, jt7, jt8] at k1
    try simp (disch := omega) only [jst_eq, jst_ne, jst_ni, jI_i, jcmp_lt, jcmp_gt, w32_id, jcpy_out, Sum.elim_inl, Sum.elim_inr, jt2, jt3, jt4, jt5, jt6, jt7, jt8] at fr1
    have M66 : MS B n q h66 := MS_fr m (fun s s0 s1 => fr1 _ _ (by omega))
    refine OK_mono (vX14_readAct_j172 (B := B) (n := n) (q := q) (by (first | assumption | omega | ((try dsimp only [jt2, jt3, jt4]); first | omega | (simp (disch := omega) only [jst_eq, jst_ne, jst_ni, jst_o, jI_i, jcpy_out, w32_id, jdiv_nn, jshr_k, jand_255] <;> first | done | omega | assumption)) | (intros; simp (disch := omega) only [jst_eq, jst_ne, jst_ni, jst_o, jI_i, jcpy_out, w32_id, jdiv_nn, *] <;> first | done | omega) | (intros; simp (disch := omega) only [jst_eq, jst_ne, jst_ni, jst_o, jI_i, jcpy_out, w32_id, jdiv_nn] at * <;> first | done | omega | assumption) | (intros; first | rfl | (exfalso; omega) | ((repeat' apply And.intro) <;> first | assumption | rfl | omega | trivial)))) (by (first | assumption | omega | ((try dsimp only [jt2, jt3, jt4]); first | omega | (simp (disch := omega) only [jst_eq, jst_ne, jst_ni, jst_o, jI_i, jcpy_out, w32_id, jdiv_nn, jshr_k, jand_255] <;> first | done | omega | assumption)) | (intros; simp (disch := omega) only [jst_eq, jst_ne, jst_ni, jst_o, jI_i, jcpy_out, w32_id, jdiv_nn, *] <;> first | done | omega) | (intros; simp (disch := omega) only [jst_eq, jst_ne, jst_ni, jst_o, jI_i, jcpy_out, w32_id, jdiv_nn] at * <;> first | done | omega | assumption) | (intros; first | rfl | (exfalso; omega) | ((repeat' apply And.intro) <;> first | assumption | rfl | omega | trivial))))) (fun r r2 => ?_)
    obtain ⟨y1, y2⟩ := r
    try dsimp only [Sum.elim_inl, Sum.elim_inr, jt2, jt3, jt4, jt5, jt6, jt7, jt8] at r2
    obtain ⟨fn2, fr2⟩ := r2
    try simp (disch := omega) only [jst_eq, jst_ne, jst_ni, jI_i, jcmp_lt, jcmp_gt, w32_id, jcpy_out, Sum.elim_inl, Sum.elim_inr, jt2, jt3, jt4, jt5, jt6, jt7, jt8] at fn2
    try simp (disch := omega) only [jst_eq, jst_ne, jst_ni, jI_i, jcmp_lt, jcmp_gt, w32_id, jcpy_out, Sum.elim_inl, Sum.elim_inr, jt2, jt3, jt4, jt5, jt6, jt7, jt8] at fr2
    try dsimp only [Sum.elim_inl, Sum.elim_inr, jt2, jt3, jt4, jt5, jt6, jt7, jt8]
    try dsimp only [Sum.elim_inl, Sum.elim_inr, jt2, jt3, jt4, jt5, jt6, jt7, jt8]
    refine ⟨?_, ?_⟩
    · (rw [if_pos (by omega)]; rw [k1] at fn2; exact fn2) -- o5 e1.1
    · (intro a s y1 y2; rw [fr2 a s y2]; exact fr1 a s y1) -- o6 e1.2
  · skip
    try simp (disch := omega) only [jst_eq, jst_ne, jst_ni, jI_i, jcmp_lt, jcmp_gt, w32_id, jcpy_out, Sum.elim_inl, Sum.elim_inr, jt2, jt3, jt4, jt5, jt6, jt7, jt8] at c1
    refine OK_mono (vX14_readAct_j172 (B := B) (n := n) (q := q) (by (first | assumption | omega | ((try dsimp only [jt2, jt3, jt4]); first | omega | (simp (disch := omega) only [jst_eq, jst_ne, jst_ni, jst_o, jI_i, jcpy_out, w32_id, jdiv_nn, jshr_k, jand_255] <;> first | done | omega | assumption)) | (intros; simp (disch := omega) only [jst_eq, jst_ne, jst_ni, jst_o, jI_i, jcpy_out, w32_id, jdiv_nn, *] <;> first | done | omega) | (intros; simp (disch := omega) only [jst_eq, jst_ne, jst_ni, jst_o, jI_i, jcpy_out, w32_id, jdiv_nn] at * <;> first | done | omega | assumption) | (intros; first | rfl | (exfalso; omega) | ((repeat' apply And.intro) <;> first | assumption | rfl | omega | trivial)))) (by (first | assumption | omega | ((try dsimp only [jt2, jt3, jt4]); first | omega | (simp (disch := omega) only [jst_eq, jst_ne, jst_ni, jst_o, jI_i, jcpy_out, w32_id, jdiv_nn, jshr_k, jand_255] <;> first | done | omega | assumption)) | (intros; simp (disch := omega) only [jst_eq, jst_ne, jst_ni, jst_o, jI_i, jcpy_out, w32_id, jdiv_nn, *] <;> first | done | omega) | (intros; simp (disch := omega) only [jst_eq, jst_ne, jst_ni, jst_o, jI_i, jcpy_out, w32_id, jdiv_nn] at * <;> first | done | omega | assumption) | (intros; first | rfl | (exfalso; omega) | ((repeat' apply And.intro) <;> first | assumption | rfl | omega | trivial))))) (fun r r3 => ?_)
    obtain ⟨y3, y4⟩ := r
    try dsimp only [Sum.elim_inl, Sum.elim_inr, jt2, jt3, jt4, jt5, jt6, jt7, jt8] at r3
    obtain ⟨fn3, fr3⟩ := r3
    try simp (disch := omega) only [jst_eq, jst_ne, jst_ni, jI_i, jcmp_lt, jcmp_gt, w32_id, jcpy_out, Sum.elim_inl, Sum.elim_inr, jt2, jt3, jt4, jt5, jt6, jt7, jt8] at fn3
    try simp (disch := omega) only [jst_eq, jst_ne, jst_ni, jI_i, jcmp_lt, jcmp_gt, w32_id, jcpy_out, Sum.elim_inl, Sum.elim_inr, jt2, jt3, jt4, jt5, jt6, jt7, jt8] at fr3
    try dsimp only [Sum.elim_inl, Sum.elim_inr, jt2, jt3, jt4, jt5, jt6, jt7, jt8]
    try dsimp only [Sum.elim_inl, Sum.elim_inr, jt2, jt3, jt4, jt5, jt6, jt7, jt8]
    refine ⟨?_, ?_⟩
    · (have kb := (MK_r mi).2; rw [if_neg (by omega), show min (MK h) 1000000 = MK h by omega]; exact fn3) -- o9 e2.1
    · (first | assumption | omega | ((try dsimp only [jt2, jt3, jt4]); first | omega | (simp (disch := omega) only [jst_eq, jst_ne, jst_ni, jst_o, jI_i, jcpy_out, w32_id, jdiv_nn, jshr_k, jand_255] <;> first | done | omega | assumption)) | (intros; simp (disch := omega) only [jst_eq, jst_ne, jst_ni, jst_o, jI_i, jcpy_out, w32_id, jdiv_nn, *] <;> first | done | omega) | (intros; simp (disch := omega) only [jst_eq, jst_ne, jst_ni, jst_o, jI_i, jcpy_out, w32_id, jdiv_nn] at * <;> first | done | omega | assumption) | (intros; first | rfl | (exfalso; omega) | ((repeat' apply And.intro) <;> first | assumption | rfl | omega | trivial))) -- o10 e2.2
theorem pO3_w {B : Int → Int} {n q z : Int} {l : List Int} (e : pW B n 256 q = .inl z) : pO3 B n l q = .inl z := by unfold pO3; rw [e]; rfl
theorem pO3_k {B : Int → Int} {n q q4 : Int} {l : List Int} (e : pW B n 256 q = .inr q4) (g : ¬ isKd B n q4) : pO3 B n l q = .inl (tS B n q4) := by unfold pO3; rw [e]; exact if_neg g
theorem pO3_g {B : Int → Int} {n q q4 : Int} {l : List Int} (e : pW B n 256 q = .inr q4) (g : isKd B n q4) : pO3 B n l q = bS (bnd (nx B n q4) (pW B n 61)) fun q6 => bS (pT B n false 13 q6) fun x => bS (pE B n x.2) fun _ => .inr (l, kdv B n q4, x.1) := by unfold pO3; rw [e]; exact if_pos g
theorem pO3_n {B : Int → Int} {n q q4 z : Int} {l : List Int} (e : pW B n 256 q = .inr q4) (g : isKd B n q4) (e2 : nx B n q4 = .inl z) : pO3 B n l q = .inl z := by rw [pO3_g e g, e2]; rfl
theorem pO3_s {B : Int → Int} {n q q4 q5 z : Int} {l : List Int} (e : pW B n 256 q = .inr q4) (g : isKd B n q4) (e2 : nx B n q4 = .inr q5) (e3 : pW B n 61 q5 = .inl z) : pO3 B n l q = .inl z := by rw [pO3_g e g, e2]; show bS (pW B n 61 q5) _ = _; rw [e3]; rfl
theorem pO3_t {B : Int → Int} {n q q4 q5 q6 z : Int} {l : List Int} (e : pW B n 256 q = .inr q4) (g : isKd B n q4) (e2 : nx B n q4 = .inr q5) (e3 : pW B n 61 q5 = .inr q6) (e4 : pT B n false 13 q6 = .inl z) : pO3 B n l q = .inl z := by rw [pO3_g e g, e2]; show bS (pW B n 61 q5) _ = _; rw [e3]; show bS (pT B n false 13 q6) _ = _; rw [e4]; rfl
theorem pO3_r {B : Int → Int} {n q q4 q5 q6 q7 : Int} {T : TR} {l : List Int} (e : pW B n 256 q = .inr q4) (g : isKd B n q4) (e2 : nx B n q4 = .inr q5) (e3 : pW B n 61 q5 = .inr q6) (e4 : pT B n false 13 q6 = .inr (T, q7)) : pO3 B n l q = bS (pE B n q7) fun _ => .inr (l, kdv B n q4, T) := by rw [pO3_g e g, e2]; show bS (pW B n 61 q5) _ = _; rw [e3]; show bS (pT B n false 13 q6) _ = _; rw [e4]; rfl
def vM3 (E : EV) (K : Int) (P : Int ⊕ (List Int × Int × TR)) (t : Int) (h' : AH) : Prop := match P with
  | .inl z => t = 472 ∧ MF z h'
  | .inr (l, kr, T) => resK (min K (keyE (EL E l) kr T)) t h' ∧ (min K (keyE (EL E l) kr T) = 1000000 → h' 454 68 = (l.length : Int) ∧ (∀ k, 0 ≤ k → k < (l.length : Int) → h' 794 k = kch (kL l k) ∧ 0 ≤ kL l k ∧ kL l k ≤ 2) ∧ h' 454 66 = kch kr ∧ h' 454 69 = 4400 ∧ resM h' (rsE (EL E l) T 0) 4400 0 ∧ rawS h' T 4400 0 4401 (-1) ∧ sz T ≤ 1100)
/-- what of m changes while an act is read -/
def frA (h h' : AH) : Prop := ∀ a s, ¬ (a = 454 ∧ (s = 17 ∨ (26 ≤ s ∧ s ≤ 31) ∨ s = 34 ∨ s = 35 ∨ (66 ≤ s ∧ s ≤ 69))) → ¬ (a = 472 ∧ (s = 6 ∨ s = 7)) → ¬ (460 ≤ a ∧ a ≤ 470 ∧ a ≠ 464 ∧ 4400 ≤ s ∧ s < 5500) → ¬ (a = 464 ∧ 13200 ≤ s ∧ s < 16500) → ¬ ((a = 474 ∨ a = 475 ∨ a = 794) ∧ 0 ≤ s ∧ s < 3) → h' a s = h a s
theorem frA_r (h : AH) : frA h h := fun _ _ _ _ _ _ _ => rfl
theorem frA_t {h h1 h2 : AH} (x : frA h h1) (y : frA h1 h2) : frA h h2 := fun a s y1 y2 y3 y4 y5 => (y a s y1 y2 y3 y4 y5).trans (x a s y1 y2 y3 y4 y5)
theorem frA_o {h h' : AH} (f : ∀ a s, ¬ (a = 454 ∧ (s = 17 ∨ (26 ≤ s ∧ s ≤ 31) ∨ s = 34 ∨ s = 35 ∨ (66 ≤ s ∧ s ≤ 69))) → ¬ (a = 472 ∧ (s = 6 ∨ s = 7)) → h' a s = h a s) : frA h h' := fun a s y1 y2 _ _ _ => f a s y1 y2
/-- what m's reader needs -/
def rdM (B : Int → Int) (n : Int) (E : EV) (Rf : Int → TR) (h : AH) : Prop := TM B n h ∧ actM h E ∧ ewO E ∧ ownM h E.1.1 E.1.2.2.2.1 Rf ∧ E.2.2.1 = 0 ∧ (h 794 (-2) = 101 ∧ h 794 (-1) = 3) ∧ (0 ≤ h 454 35 ∧ h 454 35 ≤ 2000)
theorem rdM_f {B : Int → Int} {n : Int} {E : EV} {Rf : Int → TR} {h h' : AH} (r : rdM B n E Rf h) (f : frA h h') (c : h' 454 35 = h 454 35) : rdM B n E Rf h' := by
  obtain ⟨r1, r2, r3, r4, r5, r6, r7⟩ := r
  refine ⟨TM_fr r1 (f _ _ (by omega) (by omega) (by omega) (by omega) (by omega)) (fun s => f _ _ (by omega) (by omega) (by omega) (by omega) (by omega)), actM_fr r2 (f _ _ (by omega) (by omega) (by omega) (by omega) (by omega)) (fun a s a0 a1 => f _ _ (by omega) (by omega) (by omega) (by omega) (by omega)), r3, ownM_fr r4 ⟨fun a s a0 a1 a2 a3 a4 => f _ _ (by omega) (by omega) (by omega) (by omega) (by omega), fun s s0 s1 => f _ _ (by omega) (by omega) (by omega) (by omega) (by omega)⟩ (fun a a0 a1 => f _ _ (by omega) (by omega) (by omega) (by omega) (by omega)), r5, ?_, by rw [c]; exact r7⟩
  rw [f 794 (-2) (by omega) (by omega) (by omega) (by omega) (by omega), f 794 (-1) (by omega) (by omega) (by omega) (by omega) (by omega)]
  exact r6
theorem pKK_len {B : Int → Int} {n : Int} {b : Bool} : ∀ (k : Nat) (l : List Int) (q : Int) (l' : List Int) (q' : Int), pKK B n b k l q = .inr (l', q') → l'.length ≤ l.length + k
  | 0, l, q, l', q', h => by cases h; exact Nat.le_refl _
  | k + 1, l, q, l', q', h => by
    by_cases c : isKd B n q ∧ (b = true ∨ ¬ isN B n q 19)
    · have e : pKK B n b (k + 1) l q = (match nx B n q with | .inl z => .inl z | .inr q1 => if k = 0 ∨ ¬ isKd B n q1 then .inr (l ++ [kdv B n q], q1) else pKK B n b k (l ++ [kdv B n q]) q1) := if_pos c
      rw [e] at h
      cases e2 : nx B n q with
      | inl z => rw [e2] at h; cases h
      | inr q1 =>
        rw [e2] at h
        have ll : (l ++ [kdv B n q]).length = l.length + 1 := by rw [List.length_append]; rfl
        by_cases y : k = 0 ∨ ¬ isKd B n q1
        · have h2 : (if k = 0 ∨ ¬ isKd B n q1 then (.inr (l ++ [kdv B n q], q1) : Int ⊕ (List Int × Int)) else pKK B n b k (l ++ [kdv B n q]) q1) = .inr (l', q') := h
          rw [if_pos y] at h2
          cases h2
          omega
        · have h2 : (if k = 0 ∨ ¬ isKd B n q1 then (.inr (l ++ [kdv B n q], q1) : Int ⊕ (List Int × Int)) else pKK B n b k (l ++ [kdv B n q]) q1) = .inr (l', q') := h
          rw [if_neg y] at h2
          have := pKK_len k _ _ _ _ h2
          omega
    · have e : pKK B n b (k + 1) l q = .inl (tS B n q) := if_neg c
      rw [e] at h; cases h
theorem kch_3 {a b : Int} (a0 : -1 ≤ a ∧ a ≤ 2) (b0 : 0 ≤ b ∧ b ≤ 2) : (kch a = 32 ↔ a = -1) ∧ (kch a = kch b ↔ a = b) := by
  unfold kch
  rcases (by omega : a = -1 ∨ a = 0 ∨ a = 1 ∨ a = 2) with rfl | rfl | rfl | rfl <;> rcases (by omega : b = 0 ∨ b = 1 ∨ b = 2) with rfl | rfl | rfl <;> decide
/-- the key of a term that is wanted of a kind, as m notes it -/
def kyM (E : EV) (T : TR) (kr : Int) : Int := min (min (fkE E T 0 0) (if 40 < wtE E T then (inf T).2.2.2 * 8 + 5 else 1000000)) (if kdE E T ≠ -1 ∧ kdE E T ≠ kr then (inf T).2.2.2 * 8 + 3 else 1000000)
theorem kyM_e {E : EV} {T : TR} {kr : Int} (k : kr ≠ -1) : keyE E kr T = kyM E T kr := by
  unfold keyE toE kyM
  by_cases c : kdE E T ≠ -1 ∧ kdE E T ≠ kr
  · rw [if_pos ⟨k, c⟩, if_pos c]; omega
  · rw [if_neg (fun z => c z.2), if_neg c]; omega
theorem ra_fin {B : Int → Int} {n q q2 q7 kr K0 K1 X t : Int} {E : EV} {l : List Int} {T : TR} {h' : AH} (ek : pKK B n true 2 [] q = .inr (l, q2)) (e3 : pO3 B n l q2 = bS (pE B n q7) fun _ => .inr (l, kr, T)) (fn : fnM B n q7 (min K1 X) t h') (hk : K1 = min K0 (kyM (EL E l) T kr)) (kn : kr ≠ -1) (rr : kyM (EL E l) T kr = 1000000 → h' 454 68 = (l.length : Int) ∧ (∀ k, 0 ≤ k → k < (l.length : Int) → h' 794 k = kch (kL l k) ∧ 0 ≤ kL l k ∧ kL l k ≤ 2) ∧ h' 454 66 = kch kr ∧ h' 454 69 = 4400 ∧ resM h' (rsE (EL E l) T 0) 4400 0 ∧ rawS h' T 4400 0 4401 (-1) ∧ sz T ≤ 1100) (kb : kyM (EL E l) T kr ≤ 1000000) : vM3 E (min K0 X) (bS (pKK B n true 2 [] q) fun x => pO3 B n x.1 x.2) t h' := by
  rw [ek]
  show vM3 E (min K0 X) (pO3 B n l q2) t h'
  rw [e3]
  unfold fnM at fn
  cases ep : pE B n q7 with
  | inl z => rw [ep] at fn; exact fn
  | inr q8 =>
    rw [ep] at fn
    have fn2 : resK (min K1 X) t h' := fn
    have e : min K1 X = min (min K0 X) (keyE (EL E l) kr T) := by rw [kyM_e kn]; omega
    rw [e] at fn2
    refine ⟨fn2, fun z => rr ?_⟩
    rw [kyM_e kn] at z
    omega
theorem vX14_readAct_j58 {h : AH} {B : Int → Int} {n q : Int} {E : EV} {Rf : Int → TR} (hB : ∀ i, 0 ≤ i → i < n → 0 ≤ B i ∧ B i < 256) (rd : rdM B n E Rf h) (m : MS B n q h) (mi : MI h) (c17 : h 454 17 = 4400) : OK (gX14_readAct_j58 h) (fun r => jt2 r fun t h' => (vM3 E (min (MK h) (if E.1.1 = 36 then 5 else 1000000)) (bS (pKK B n true 2 [] q) fun x => pO3 B n x.1 x.2) t h') ∧ (frA h h') ∧ (h' 454 67 = h 454 67 ∧ h' 454 35 = h 454 35)) := by
  have T0 := rd.1
  have tn := T0.2.1
  have tn2 := T0.2.2.1
  unfold gX14_readAct_j58
  refine OK_jb3 (vX14_takeKinds (B := B) (n := n) (q := q) (b := true) _ _ _ (by (first | assumption | omega | ((try dsimp only [jt2, jt3, jt4]); first | omega | (simp (disch := omega) only [jst_eq, jst_ne, jst_ni, jst_o, jI_i, jcpy_out, w32_id, jdiv_nn, jshr_k, jand_255] <;> first | done | omega | assumption)) | (intros; simp (disch := omega) only [jst_eq, jst_ne, jst_ni, jst_o, jI_i, jcpy_out, w32_id, jdiv_nn, *] <;> first | done | omega) | (intros; simp (disch := omega) only [jst_eq, jst_ne, jst_ni, jst_o, jI_i, jcpy_out, w32_id, jdiv_nn] at * <;> first | done | omega | assumption) | (intros; first | rfl | (exfalso; omega) | ((repeat' apply And.intro) <;> first | assumption | rfl | omega | trivial)))) (by (first | assumption | omega | ((try dsimp only [jt2, jt3, jt4]); first | omega | (simp (disch := omega) only [jst_eq, jst_ne, jst_ni, jst_o, jI_i, jcpy_out, w32_id, jdiv_nn, jshr_k, jand_255] <;> first | done | omega | assumption)) | (intros; simp (disch := omega) only [jst_eq, jst_ne, jst_ni, jst_o, jI_i, jcpy_out, w32_id, jdiv_nn, *] <;> first | done | omega) | (intros; simp (disch := omega) only [jst_eq, jst_ne, jst_ni, jst_o, jI_i, jcpy_out, w32_id, jdiv_nn] at * <;> first | done | omega | assumption) | (intros; first | rfl | (exfalso; omega) | ((repeat' apply And.intro) <;> first | assumption | rfl | omega | trivial)))) (by (first | assumption | omega | ((try dsimp only [jt2, jt3, jt4]); first | omega | (simp (disch := omega) only [jst_eq, jst_ne, jst_ni, jst_o, jI_i, jcpy_out, w32_id, jdiv_nn, jshr_k, jand_255] <;> first | done | omega | assumption)) | (intros; simp (disch := omega) only [jst_eq, jst_ne, jst_ni, jst_o, jI_i, jcpy_out, w32_id, jdiv_nn, *] <;> first | done | omega) | (intros; simp (disch := omega) only [jst_eq, jst_ne, jst_ni, jst_o, jI_i, jcpy_out, w32_id, jdiv_nn] at * <;> first | done | omega | assumption) | (intros; first | rfl | (exfalso; omega) | ((repeat' apply And.intro) <;> first | assumption | rfl | omega | trivial)))) (by (rw [rd.2.2.2.2.2.1.2]; exact ⟨rd.2.2.2.2.2.1.1, by decide, by decide, by decide, by decide, by decide, rfl⟩)) (by rfl)) (fun t28 v29 h30 r1 => ?_)
  try dsimp only [Sum.elim_inl, Sum.elim_inr, jt2, jt3, jt4, jt5, jt6, jt7, jt8] at r1
  obtain ⟨kl1, fr1⟩ := r1
  try simp (disch := omega) only [jst_eq, jst_ne, jst_ni, jI_i, jcmp_lt, jcmp_gt, w32_id, jcpy_out, Sum.elim_inl, Sum.elim_inr, jt2, jt3, jt4, jt5, jt6, jt7, jt8] at kl1
  try simp (disch := omega) only [jst_eq, jst_ne, jst_ni, jI_i, jcmp_lt, jcmp_gt, w32_id, jcpy_out, Sum.elim_inl, Sum.elim_inr, jt2, jt3, jt4, jt5, jt6, jt7, jt8] at fr1
  refine OK_jq (fun c1 => ?_) (fun c1 => ?_)
  · skip
    refine OK_some ?_
    try dsimp only [Sum.elim_inl, Sum.elim_inr, jt2, jt3, jt4, jt5, jt6, jt7, jt8]
    try dsimp only [Sum.elim_inl, Sum.elim_inr, jt2, jt3, jt4, jt5, jt6, jt7, jt8]
    refine ⟨?_, ?_, ?_⟩
    · (rcases kl1 with ⟨z, e, t1, t2⟩ | ⟨l, q', e, t1, _⟩; { rw [e]; exact ⟨t1, t2⟩ }; { exact absurd t1 c1 }) -- o6 e1.1
    · exact fun a s y1 y2 y3 y4 y5 => fr1 a s (by omega) y2 (by omega) -- o7 e1.2
    · exact ⟨fr1 _ _ (by omega) (by omega) (by omega), fr1 _ _ (by omega) (by omega) (by omega)⟩ -- o8 e1.3
  · skip
    obtain ⟨l, q2, ek, _, ms1, ll, kc1⟩ := kl1.resolve_left (fun ⟨z, _, y, _⟩ => by omega)
    have L2 := pKK_len 2 [] q l q2 ek
    have L3 : (l.length : Int) ≤ 2 := by { have : ([] : List Int).length = 0 := rfl; omega }
    refine OK_jl ?_
    have F32 : ∀ a s, ¬ (a = 454 ∧ (26 ≤ s ∧ s ≤ 29 ∨ s = 68)) → ¬ (a = 472 ∧ (s = 6 ∨ s = 7)) → ¬ (a = 794 ∧ 0 ≤ s ∧ s < 3) → jst h30 454 68 v29 a s = h a s := fun a s y1 y2 y3 => by { rw [jst_o (by omega)]; exact fr1 a s (by omega) y2 y3 }
    have V32 : jst h30 454 68 v29 454 68 = v29 := jst_eq
    have M32 : MS B n q2 (jst h30 454 68 v29) := MS_fr ms1 (fun s s0 s1 => jst_o (by omega))
    have K32 : kC (jst h30 454 68 v29) 794 l := fun k k0 k1 => by { rw [jst_o (by omega)]; exact kc1 k k0 k1 }
    generalize jst h30 454 68 v29 = g32 at *
    have T32 : TM B n g32 := TM_fr T0 (F32 _ _ (by omega) (by omega) (by omega)) (fun s => F32 _ _ (by omega) (by omega) (by omega))
    refine OK_jb2 (vX14_passSign (B := B) (n := n) _ (by (first | assumption | omega | ((try dsimp only [jt2, jt3, jt4]); first | omega | (simp (disch := omega) only [jst_eq, jst_ne, jst_ni, jst_o, jI_i, jcpy_out, w32_id, jdiv_nn, jshr_k, jand_255] <;> first | done | omega | assumption)) | (intros; simp (disch := omega) only [jst_eq, jst_ne, jst_ni, jst_o, jI_i, jcpy_out, w32_id, jdiv_nn, *] <;> first | done | omega) | (intros; simp (disch := omega) only [jst_eq, jst_ne, jst_ni, jst_o, jI_i, jcpy_out, w32_id, jdiv_nn] at * <;> first | done | omega | assumption) | (intros; first | rfl | (exfalso; omega) | ((repeat' apply And.intro) <;> first | assumption | rfl | omega | trivial)))) (by (first | assumption | omega | ((try dsimp only [jt2, jt3, jt4]); first | omega | (simp (disch := omega) only [jst_eq, jst_ne, jst_ni, jst_o, jI_i, jcpy_out, w32_id, jdiv_nn, jshr_k, jand_255] <;> first | done | omega | assumption)) | (intros; simp (disch := omega) only [jst_eq, jst_ne, jst_ni, jst_o, jI_i, jcpy_out, w32_id, jdiv_nn, *] <;> first | done | omega) | (intros; simp (disch := omega) only [jst_eq, jst_ne, jst_ni, jst_o, jI_i, jcpy_out, w32_id, jdiv_nn] at * <;> first | done | omega | assumption) | (intros; first | rfl | (exfalso; omega) | ((repeat' apply And.intro) <;> first | assumption | rfl | omega | trivial)))) (by exact M32)) (fun t34 h36 r2 => ?_)
    try dsimp only [Sum.elim_inl, Sum.elim_inr, jt2, jt3, jt4, jt5, jt6, jt7, jt8] at r2
    obtain ⟨r2, fr2⟩ := r2
    try simp (disch := omega) only [jst_eq, jst_ne, jst_ni, jI_i, jcmp_lt, jcmp_gt, w32_id, jcpy_out, Sum.elim_inl, Sum.elim_inr, jt2, jt3, jt4, jt5, jt6, jt7, jt8] at r2
    try simp (disch := omega) only [jst_eq, jst_ne, jst_ni, jI_i, jcmp_lt, jcmp_gt, w32_id, jcpy_out, Sum.elim_inl, Sum.elim_inr, jt2, jt3, jt4, jt5, jt6, jt7, jt8] at fr2
    refine OK_jq (fun c2 => ?_) (fun c2 => ?_)
    · skip
      refine OK_some ?_
      try dsimp only [Sum.elim_inl, Sum.elim_inr, jt2, jt3, jt4, jt5, jt6, jt7, jt8]
      try dsimp only [Sum.elim_inl, Sum.elim_inr, jt2, jt3, jt4, jt5, jt6, jt7, jt8]
      refine ⟨?_, ?_, ?_⟩
      · (obtain ⟨z, e, t1, t2⟩ := rM_l r2 c2; rw [ek]; show vM3 E _ (pO3 B n l q2) _ _; rw [pO3_w e]; exact ⟨t1, t2⟩) -- o12 e2.1
      · exact fun a s y1 y2 y3 y4 y5 => (by rw [fr2 a s (by omega) y2]; exact F32 a s (by omega) y2 (by omega)) -- o13 e2.2
      · (rw [fr2 _ _ (by omega) (by omega), F32 _ _ (by omega) (by omega) (by omega), fr2 _ _ (by omega) (by omega), F32 _ _ (by omega) (by omega) (by omega)]; exact ⟨rfl, rfl⟩) -- o14 e2.3
    · skip
      obtain ⟨q4, e4, ms2⟩ := rM_r r2 c2
      have T36 : TM B n h36 := TM_fr T32 (fr2 _ _ (by omega) (by omega)) (fun s => fr2 _ _ (by omega) (by omega))
      refine OK_jb3 (vX14_takeKind (B := B) (n := n) (by (first | assumption | omega | ((try dsimp only [jt2, jt3, jt4]); first | omega | (simp (disch := omega) only [jst_eq, jst_ne, jst_ni, jst_o, jI_i, jcpy_out, w32_id, jdiv_nn, jshr_k, jand_255] <;> first | done | omega | assumption)) | (intros; simp (disch := omega) only [jst_eq, jst_ne, jst_ni, jst_o, jI_i, jcpy_out, w32_id, jdiv_nn, *] <;> first | done | omega) | (intros; simp (disch := omega) only [jst_eq, jst_ne, jst_ni, jst_o, jI_i, jcpy_out, w32_id, jdiv_nn] at * <;> first | done | omega | assumption) | (intros; first | rfl | (exfalso; omega) | ((repeat' apply And.intro) <;> first | assumption | rfl | omega | trivial)))) (by (first | assumption | omega | ((try dsimp only [jt2, jt3, jt4]); first | omega | (simp (disch := omega) only [jst_eq, jst_ne, jst_ni, jst_o, jI_i, jcpy_out, w32_id, jdiv_nn, jshr_k, jand_255] <;> first | done | omega | assumption)) | (intros; simp (disch := omega) only [jst_eq, jst_ne, jst_ni, jst_o, jI_i, jcpy_out, w32_id, jdiv_nn, *] <;> first | done | omega) | (intros; simp (disch := omega) only [jst_eq, jst_ne, jst_ni, jst_o, jI_i, jcpy_out, w32_id, jdiv_nn] at * <;> first | done | omega | assumption) | (intros; first | rfl | (exfalso; omega) | ((repeat' apply And.intro) <;> first | assumption | rfl | omega | trivial)))) (by exact ms2)) (fun t39 v40 h41 r3 => ?_)
      try dsimp only [Sum.elim_inl, Sum.elim_inr, jt2, jt3, jt4, jt5, jt6, jt7, jt8] at r3
      obtain ⟨no3, r3, vk3, fr3⟩ := r3
      try simp (disch := omega) only [jst_eq, jst_ne, jst_ni, jI_i, jcmp_lt, jcmp_gt, w32_id, jcpy_out, Sum.elim_inl, Sum.elim_inr, jt2, jt3, jt4, jt5, jt6, jt7, jt8] at no3
      try simp (disch := omega) only [jst_eq, jst_ne, jst_ni, jI_i, jcmp_lt, jcmp_gt, w32_id, jcpy_out, Sum.elim_inl, Sum.elim_inr, jt2, jt3, jt4, jt5, jt6, jt7, jt8] at r3
      try simp (disch := omega) only [jst_eq, jst_ne, jst_ni, jI_i, jcmp_lt, jcmp_gt, w32_id, jcpy_out, Sum.elim_inl, Sum.elim_inr, jt2, jt3, jt4, jt5, jt6, jt7, jt8] at vk3
      try simp (disch := omega) only [jst_eq, jst_ne, jst_ni, jI_i, jcmp_lt, jcmp_gt, w32_id, jcpy_out, Sum.elim_inl, Sum.elim_inr, jt2, jt3, jt4, jt5, jt6, jt7, jt8] at fr3
      refine OK_jq (fun c3 => ?_) (fun c3 => ?_)
      · skip
        refine OK_some ?_
        try dsimp only [Sum.elim_inl, Sum.elim_inr, jt2, jt3, jt4, jt5, jt6, jt7, jt8]
        try dsimp only [Sum.elim_inl, Sum.elim_inr, jt2, jt3, jt4, jt5, jt6, jt7, jt8]
        refine ⟨?_, ?_, ?_⟩
        · (rw [ek]; show vM3 E _ (pO3 B n l q2) _ _; by_cases g : isKd B n q4; { obtain ⟨z, e, t1, t2⟩ := rM_l (r3 g) c3; rw [pO3_n e4 g e]; exact ⟨t1, t2⟩ }; { rw [pO3_k e4 g]; exact no3 g }) -- o18 e3.1
        · exact fun a s y1 y2 y3 y4 y5 => (by rw [fr3 a s (by omega) y2, fr2 a s (by omega) y2]; exact F32 a s (by omega) y2 (by omega)) -- o19 e3.2
        · (rw [fr3 _ _ (by omega) (by omega), fr2 _ _ (by omega) (by omega), F32 _ _ (by omega) (by omega) (by omega), fr3 _ _ (by omega) (by omega), fr2 _ _ (by omega) (by omega), F32 _ _ (by omega) (by omega) (by omega)]; exact ⟨rfl, rfl⟩) -- o20 e3.3
      · skip
        have g : isKd B n q4 := Classical.byContradiction fun y => by { have := (no3 y).1; omega }
        obtain ⟨q5, e5, ms3⟩ := rM_r (r3 g) c3
        have VK := vk3 g c3
        clear no3 r3 vk3 r2 c1 c2 c3
        refine OK_jl ?_
        have F43 : ∀ a s, ¬ (a = 454 ∧ (26 ≤ s ∧ s ≤ 29 ∨ s = 68 ∨ s = 66)) → ¬ (a = 472 ∧ (s = 6 ∨ s = 7)) → ¬ (a = 794 ∧ 0 ≤ s ∧ s < 3) → jst h41 454 66 v40 a s = h a s := fun a s y1 y2 y3 => by { rw [jst_o (by omega), fr3 a s (by omega) y2, fr2 a s (by omega) y2]; exact F32 a s (by omega) y2 y3 }
        have V43 : jst h41 454 66 v40 454 66 = v40 ∧ jst h41 454 66 v40 454 68 = v29 := ⟨jst_eq, by { rw [jst_o (by omega), fr3 _ _ (by omega) (by omega), fr2 _ _ (by omega) (by omega)]; exact V32 }⟩
        have M43 : MS B n q5 (jst h41 454 66 v40) := MS_fr ms3 (fun s s0 s1 => jst_o (by omega))
        have K43 : kC (jst h41 454 66 v40) 794 l := fun k k0 k1 => by { rw [jst_o (by omega), fr3 _ _ (by omega) (by omega), fr2 _ _ (by omega) (by omega)]; exact K32 k k0 k1 }
        generalize jst h41 454 66 v40 = g43 at *
        have T43 : TM B n g43 := TM_fr T0 (F43 _ _ (by omega) (by omega) (by omega)) (fun s => F43 _ _ (by omega) (by omega) (by omega))
        clear F32 V32 K32 M32 T32 fr1 fr2 fr3 kc1 T36 ms1 ms2 ms3
        refine OK_jb2 (vX14_passSign (B := B) (n := n) _ (by (first | assumption | omega | ((try dsimp only [jt2, jt3, jt4]); first | omega | (simp (disch := omega) only [jst_eq, jst_ne, jst_ni, jst_o, jI_i, jcpy_out, w32_id, jdiv_nn, jshr_k, jand_255] <;> first | done | omega | assumption)) | (intros; simp (disch := omega) only [jst_eq, jst_ne, jst_ni, jst_o, jI_i, jcpy_out, w32_id, jdiv_nn, *] <;> first | done | omega) | (intros; simp (disch := omega) only [jst_eq, jst_ne, jst_ni, jst_o, jI_i, jcpy_out, w32_id, jdiv_nn] at * <;> first | done | omega | assumption) | (intros; first | rfl | (exfalso; omega) | ((repeat' apply And.intro) <;> first | assumption | rfl | omega | trivial)))) (by (first | assumption | omega | ((try dsimp only [jt2, jt3, jt4]); first | omega | (simp (disch := omega) only [jst_eq, jst_ne, jst_ni, jst_o, jI_i, jcpy_out, w32_id, jdiv_nn, jshr_k, jand_255] <;> first | done | omega | assumption)) | (intros; simp (disch := omega) only [jst_eq, jst_ne, jst_ni, jst_o, jI_i, jcpy_out, w32_id, jdiv_nn, *] <;> first | done | omega) | (intros; simp (disch := omega) only [jst_eq, jst_ne, jst_ni, jst_o, jI_i, jcpy_out, w32_id, jdiv_nn] at * <;> first | done | omega | assumption) | (intros; first | rfl | (exfalso; omega) | ((repeat' apply And.intro) <;> first | assumption | rfl | omega | trivial)))) (by exact M43)) (fun t45 h47 r4 => ?_)
        try dsimp only [Sum.elim_inl, Sum.elim_inr, jt2, jt3, jt4, jt5, jt6, jt7, jt8] at r4
        obtain ⟨r4, fr4⟩ := r4
        try simp (disch := omega) only [jst_eq, jst_ne, jst_ni, jI_i, jcmp_lt, jcmp_gt, w32_id, jcpy_out, Sum.elim_inl, Sum.elim_inr, jt2, jt3, jt4, jt5, jt6, jt7, jt8] at r4
        try simp (disch := omega) only [jst_eq, jst_ne, jst_ni, jI_i, jcmp_lt, jcmp_gt, w32_id, jcpy_out, Sum.elim_inl, Sum.elim_inr, jt2, jt3, jt4, jt5, jt6, jt7, jt8] at fr4
        refine OK_jq (fun c4 => ?_) (fun c4 => ?_)
        · skip
          refine OK_some ?_
          try dsimp only [Sum.elim_inl, Sum.elim_inr, jt2, jt3, jt4, jt5, jt6, jt7, jt8]
          try dsimp only [Sum.elim_inl, Sum.elim_inr, jt2, jt3, jt4, jt5, jt6, jt7, jt8]
          refine ⟨?_, ?_, ?_⟩
          · (obtain ⟨z, e, t1, t2⟩ := rM_l r4 c4; rw [ek]; show vM3 E _ (pO3 B n l q2) _ _; rw [pO3_s e4 g e5 e]; exact ⟨t1, t2⟩) -- o24 e4.1
          · exact fun a s y1 y2 y3 y4 y5 => (by rw [fr4 a s (by omega) y2]; exact F43 a s (by omega) y2 (by omega)) -- o25 e4.2
          · (rw [fr4 _ _ (by omega) (by omega), F43 _ _ (by omega) (by omega) (by omega), fr4 _ _ (by omega) (by omega), F43 _ _ (by omega) (by omega) (by omega)]; exact ⟨rfl, rfl⟩) -- o26 e4.3
        · skip
          obtain ⟨q6, e6, ms4⟩ := rM_r r4 c4
          have F47 : ∀ a s, ¬ (a = 454 ∧ (26 ≤ s ∧ s ≤ 29 ∨ s = 68 ∨ s = 66)) → ¬ (a = 472 ∧ (s = 6 ∨ s = 7)) → ¬ (a = 794 ∧ 0 ≤ s ∧ s < 3) → h47 a s = h a s := fun a s y1 y2 y3 => by { rw [fr4 a s (by omega) y2]; exact F43 a s y1 y2 y3 }
          have V47 : h47 454 66 = v40 ∧ h47 454 68 = v29 := by { rw [fr4 _ _ (by omega) (by omega), fr4 _ _ (by omega) (by omega)]; exact V43 }
          have K47 : kC h47 794 l := fun k k0 k1 => by { rw [fr4 _ _ (by omega) (by omega)]; exact K43 k k0 k1 }
          have T47 : TM B n h47 := TM_fr T43 (fr4 _ _ (by omega) (by omega)) (fun s => fr4 _ _ (by omega) (by omega))
          have c47 : h47 454 17 = 4400 := by { rw [F47 _ _ (by omega) (by omega) (by omega)]; exact c17 }
          clear F43 V43 K43 r4 fr4 c4 M43
          refine OK_jb3 (vX14_takeTerm (B := B) (n := n) (sk := false) _ _ (by (first | assumption | omega | ((try dsimp only [jt2, jt3, jt4]); first | omega | (simp (disch := omega) only [jst_eq, jst_ne, jst_ni, jst_o, jI_i, jcpy_out, w32_id, jdiv_nn, jshr_k, jand_255] <;> first | done | omega | assumption)) | (intros; simp (disch := omega) only [jst_eq, jst_ne, jst_ni, jst_o, jI_i, jcpy_out, w32_id, jdiv_nn, *] <;> first | done | omega) | (intros; simp (disch := omega) only [jst_eq, jst_ne, jst_ni, jst_o, jI_i, jcpy_out, w32_id, jdiv_nn] at * <;> first | done | omega | assumption) | (intros; first | rfl | (exfalso; omega) | ((repeat' apply And.intro) <;> first | assumption | rfl | omega | trivial)))) (by exact ⟨rfl, rfl⟩) (by (first | assumption | omega | ((try dsimp only [jt2, jt3, jt4]); first | omega | (simp (disch := omega) only [jst_eq, jst_ne, jst_ni, jst_o, jI_i, jcpy_out, w32_id, jdiv_nn, jshr_k, jand_255] <;> first | done | omega | assumption)) | (intros; simp (disch := omega) only [jst_eq, jst_ne, jst_ni, jst_o, jI_i, jcpy_out, w32_id, jdiv_nn, *] <;> first | done | omega) | (intros; simp (disch := omega) only [jst_eq, jst_ne, jst_ni, jst_o, jI_i, jcpy_out, w32_id, jdiv_nn] at * <;> first | done | omega | assumption) | (intros; first | rfl | (exfalso; omega) | ((repeat' apply And.intro) <;> first | assumption | rfl | omega | trivial)))) (by exact ms4) (by (have := ms4.2.2.1; omega))) (fun t50 v51 h52 r5 => ?_)
          try dsimp only [Sum.elim_inl, Sum.elim_inr, jt2, jt3, jt4, jt5, jt6, jt7, jt8] at r5
          have pm5 := r5
          clear r5
          try simp (disch := omega) only [jst_eq, jst_ne, jst_ni, jI_i, jcmp_lt, jcmp_gt, w32_id, jcpy_out, Sum.elim_inl, Sum.elim_inr, jt2, jt3, jt4, jt5, jt6, jt7, jt8] at pm5
          refine OK_jq (fun c5 => ?_) (fun c5 => ?_)
          · skip
            refine OK_some ?_
            try dsimp only [Sum.elim_inl, Sum.elim_inr, jt2, jt3, jt4, jt5, jt6, jt7, jt8]
            try dsimp only [Sum.elim_inl, Sum.elim_inr, jt2, jt3, jt4, jt5, jt6, jt7, jt8]
            refine ⟨?_, ?_, ?_⟩
            · (obtain ⟨z, e, t1, t2, _⟩ := pm_l pm5 c5; rw [ek]; show vM3 E _ (pO3 B n l q2) _ _; rw [pO3_t e4 g e5 e6 e]; exact ⟨t1, t2⟩) -- o32 e5.1
            · (obtain ⟨z, e, t1, t2, f, g1, g2⟩ := pm_l pm5 c5; have := ms4.2.2.1; exact fun a s y1 y2 y3 y4 y5 => (by rw [f a s (by omega) y2 (by omega) (by omega)]; exact F47 a s (by omega) y2 (by omega))) -- o33 e5.2
            · (obtain ⟨z, e, t1, t2, f, g1, g2⟩ := pm_l pm5 c5; rw [f _ _ (by omega) (by omega) (by omega) (by omega), F47 _ _ (by omega) (by omega) (by omega), f _ _ (by omega) (by omega) (by omega) (by omega), F47 _ _ (by omega) (by omega) (by omega)]; exact ⟨rfl, rfl⟩) -- o34 e5.3
          · skip
            obtain ⟨T, q7, e7, p1, p2, p3, p4, p5, p6, p7⟩ := pm_r pm5 c5
            have m4q := ms4.2.2.1
            have wpt := pT_wp hB 13 q6 T q7 m4q ms4.2.2.2 ms4.2.1 e7
            have okt := pT_ok hB tn2 13 q6 T q7 m4q ms4.2.2.2 ms4.2.1 e7
            have gT0 : gT T := okt.1
            have dT0 : dpT T + 1 ≤ 13 := okt.2
            have hl0 : hlT T = 0 := pT_h0 13 q6 T q7 e7
            have v4 : v51 = 4400 := by omega
            have q7n := p2.2.2.2
            have st := sz_pos T
            have sz1 : sz T ≤ 1001 := by omega
            have pI := gT_i gT0
            refine OK_jl ?_
            have F54 : ∀ a s, ¬ (a = 454 ∧ (s = 17 ∨ (26 ≤ s ∧ s ≤ 29) ∨ s = 68 ∨ s = 66 ∨ s = 69)) → ¬ (a = 472 ∧ (s = 6 ∨ s = 7)) → ¬ (460 ≤ a ∧ a ≤ 470 ∧ a ≠ 464 ∧ 4400 ≤ s ∧ s < 5500) → ¬ (a = 464 ∧ 13200 ≤ s ∧ s < 16500) → ¬ (a = 794 ∧ 0 ≤ s ∧ s < 3) → jst h52 454 69 v51 a s = h a s := fun a s y1 y2 y3 y4 y5 => by { rw [jst_o (by omega), p1 a s (by omega) y2 (by omega) (by omega)]; exact F47 a s (by omega) y2 y5 }
            have V54 : jst h52 454 69 v51 454 69 = 4400 ∧ jst h52 454 69 v51 454 66 = v40 ∧ jst h52 454 69 v51 454 68 = v29 := ⟨by { rw [jst_eq]; exact v4 }, by { rw [jst_o (by omega), p1 _ _ (by omega) (by omega) (by omega) (by omega)]; exact V47.1 }, by { rw [jst_o (by omega), p1 _ _ (by omega) (by omega) (by omega) (by omega)]; exact V47.2 }⟩
            have M54 : MS B n q7 (jst h52 454 69 v51) := MS_fr p2 (fun s s0 s1 => jst_o (by omega))
            have K54 : kC (jst h52 454 69 v51) 794 l := fun k k0 k1 => by { rw [jst_o (by omega), p1 _ _ (by omega) (by omega) (by omega) (by omega)]; exact K47 k k0 k1 }
            have O54 : okN (jst h52 454 69 v51) T 4400 30 := ⟨rawM_ag (h := h52) (lo := 4400) (hi := 4400 + sz T) ⟨fun a s x0 x1 _ _ _ _ => jst_o (by omega), fun s _ _ => jst_o (by omega), fun s _ _ => jst_o (by omega)⟩ (Int.le_refl _) (Int.le_refl _) (by omega) (by omega) (by omega) (by rw [v4] at p7; exact p7), gT0, wpt.1, by decide, by omega, by omega⟩
            generalize jst h52 454 69 v51 = g54 at *
            clear F47 V47 K47 pm5 p1 p2 p3 p4 p5 p6 p7 c5 T47 T43 c47 okt m4q
            rw [V54.2.2]
            refine OK_jb (vX14_parameters _ _ _ (by (have := ll; omega)) (by (rw [F54 794 (-2) (by omega) (by omega) (by omega) (by omega) (by omega), F54 794 (-1) (by omega) (by omega) (by omega) (by omega) (by omega), rd.2.2.2.2.2.1.2]; exact ⟨rd.2.2.2.2.2.1.1, by omega, by decide, by decide, by decide⟩))) (fun h56 r6 => ?_)
            try dsimp only [Sum.elim_inl, Sum.elim_inr, jt2, jt3, jt4, jt5, jt6, jt7, jt8] at r6
            obtain ⟨pp6, fr6⟩ := r6
            try simp (disch := omega) only [jst_eq, jst_ne, jst_ni, jI_i, jcmp_lt, jcmp_gt, w32_id, jcpy_out, Sum.elim_inl, Sum.elim_inr, jt2, jt3, jt4, jt5, jt6, jt7, jt8] at pp6
            try simp (disch := omega) only [jst_eq, jst_ne, jst_ni, jI_i, jcmp_lt, jcmp_gt, w32_id, jcpy_out, Sum.elim_inl, Sum.elim_inr, jt2, jt3, jt4, jt5, jt6, jt7, jt8] at fr6
            have PA : parM h56 (EL E l) := ⟨by { rw [pp6.1]; exact ll.symm }, by { show 0 ≤ (l.length : Int); omega }, by { show (l.length : Int) ≤ 3; omega }, fun k k0 k1 => by { have k1' : k < v29 := (by have : k < (l.length : Int) := k1; omega); have b := pp6.2 k k0 k1'; have c := K54 k k0 (by omega); rw [show 0 + k = k by omega] at b; exact ⟨b.1, by rw [b.2]; exact c.1, by have := c.2.1; show -1 ≤ kL l k; omega, c.2.2⟩ }⟩
            have F56 : ∀ a s, ¬ (a = 454 ∧ (s = 17 ∨ (26 ≤ s ∧ s ≤ 29) ∨ s = 34 ∨ s = 68 ∨ s = 66 ∨ s = 69)) → ¬ (a = 472 ∧ (s = 6 ∨ s = 7)) → ¬ (460 ≤ a ∧ a ≤ 470 ∧ a ≠ 464 ∧ 4400 ≤ s ∧ s < 5500) → ¬ (a = 464 ∧ 13200 ≤ s ∧ s < 16500) → ¬ ((a = 474 ∨ a = 475 ∨ a = 794) ∧ 0 ≤ s ∧ s < 3) → h56 a s = h a s := fun a s y1 y2 y3 y4 y5 => by { rw [fr6 a s (by omega) (by omega)]; exact F54 a s (by omega) y2 y3 y4 (by omega) }
            have AC56 : actM h56 E := actM_fr rd.2.1 (F56 _ _ (by omega) (by omega) (by omega) (by omega) (by omega)) (fun a s a0 a1 => F56 _ _ (by omega) (by omega) (by omega) (by omega) (by omega))
            have EV56 : evM h56 0 (EL E l) := ⟨AC56, PA, Or.inl ⟨rfl, rd.2.2.2.2.1⟩⟩
            have O56 : okN h56 T 4400 30 := ⟨rawM_ag (lo := 4400) (hi := 4400 + sz T) ⟨fun a s x0 x1 _ _ _ _ => fr6 _ _ (by omega) (by omega), fun s _ _ => fr6 _ _ (by omega) (by omega), fun s _ _ => fr6 _ _ (by omega) (by omega)⟩ (Int.le_refl _) (Int.le_refl _) (by omega) (by omega) (by omega) O54.1, O54.2⟩
            have V56 : h56 454 69 = 4400 ∧ h56 454 66 = v40 ∧ h56 454 68 = v29 := by { rw [fr6 _ _ (by omega) (by omega), fr6 _ _ (by omega) (by omega), fr6 _ _ (by omega) (by omega)]; exact V54 }
            have OW56 : ownM h56 E.1.1 E.1.2.2.2.1 Rf := ownM_fr rd.2.2.2.1 ⟨fun a s a0 a1 a2 a3 a4 => F56 _ _ (by omega) (by omega) (by omega) (by omega) (by omega), fun s s0 s1 => F56 _ _ (by omega) (by omega) (by omega) (by omega) (by omega)⟩ (fun a a0 a1 => F56 _ _ (by omega) (by omega) (by omega) (by omega) (by omega))
            have MI56 : MI h56 := MI_fr (F56 _ _ (by omega) (by omega) (by omega) (by omega) (by omega)) (F56 _ _ (by omega) (by omega) (by omega) (by omega) (by omega)) mi
            have MK56 : MK h56 = MK h := MK_fr (F56 _ _ (by omega) (by omega) (by omega) (by omega) (by omega)) (F56 _ _ (by omega) (by omega) (by omega) (by omega) (by omega))
            have H56 : h56 454 35 = h 454 35 := F56 _ _ (by omega) (by omega) (by omega) (by omega) (by omega)
            have M56 : MS B n q7 h56 := MS_fr M54 (fun s s0 s1 => fr6 _ _ (by omega) (by omega))
            have N56 : h56 454 67 = h 454 67 := F56 _ _ (by omega) (by omega) (by omega) (by omega) (by omega)
            rw [V56.1]
            refine OK_jb2 (vX14_weighed (E := EL E l) (T := T) (Rf := Rf) _ _ (by exact EV56) (by (first | assumption | omega | ((try dsimp only [jt2, jt3, jt4]); first | omega | (simp (disch := omega) only [jst_eq, jst_ne, jst_ni, jst_o, jI_i, jcpy_out, w32_id, jdiv_nn, jshr_k, jand_255] <;> first | done | omega | assumption)) | (intros; simp (disch := omega) only [jst_eq, jst_ne, jst_ni, jst_o, jI_i, jcpy_out, w32_id, jdiv_nn, *] <;> first | done | omega) | (intros; simp (disch := omega) only [jst_eq, jst_ne, jst_ni, jst_o, jI_i, jcpy_out, w32_id, jdiv_nn] at * <;> first | done | omega | assumption) | (intros; first | rfl | (exfalso; omega) | ((repeat' apply And.intro) <;> first | assumption | rfl | omega | trivial)))) (by (first | assumption | omega | ((try dsimp only [jt2, jt3, jt4]); first | omega | (simp (disch := omega) only [jst_eq, jst_ne, jst_ni, jst_o, jI_i, jcpy_out, w32_id, jdiv_nn, jshr_k, jand_255] <;> first | done | omega | assumption)) | (intros; simp (disch := omega) only [jst_eq, jst_ne, jst_ni, jst_o, jI_i, jcpy_out, w32_id, jdiv_nn, *] <;> first | done | omega) | (intros; simp (disch := omega) only [jst_eq, jst_ne, jst_ni, jst_o, jI_i, jcpy_out, w32_id, jdiv_nn] at * <;> first | done | omega | assumption) | (intros; first | rfl | (exfalso; omega) | ((repeat' apply And.intro) <;> first | assumption | rfl | omega | trivial)))) (by (rw [H56]; have := rd.2.2.2.2.2.2; omega)) (by exact rd.2.2.1) (by exact OW56) (by omega)) (fun v58 h59 r7 => ?_)
            try dsimp only [Sum.elim_inl, Sum.elim_inr, jt2, jt3, jt4, jt5, jt6, jt7, jt8] at r7
            have pw7 := r7
            clear r7
            try simp (disch := omega) only [jst_eq, jst_ne, jst_ni, jI_i, jcmp_lt, jcmp_gt, w32_id, jcpy_out, Sum.elim_inl, Sum.elim_inr, jt2, jt3, jt4, jt5, jt6, jt7, jt8] at pw7
            obtain ⟨w1, w2, w3, w4, w5, w6, w7⟩ := pw7
            have F59 : frA h h59 := fun a s y1 y2 y3 y4 y5 => by { rw [w7 a s (by omega) (by omega)]; exact F56 a s (by omega) y2 y3 y4 y5 }
            have V59 : h59 454 69 = 4400 ∧ h59 454 66 = v40 ∧ h59 454 68 = v29 ∧ h59 454 67 = h 454 67 ∧ h59 454 35 = h 454 35 := by { rw [w7 454 69 (by omega) (by omega), w7 454 66 (by omega) (by omega), w7 454 68 (by omega) (by omega), w7 454 67 (by omega) (by omega)]; exact ⟨V56.1, V56.2.1, V56.2.2, N56, by omega⟩ }
            have M59 : MS B n q7 h59 := MS_fr M56 (fun s s0 s1 => w7 _ _ (by omega) (by omega))
            have A59 : h59 454 5 = E.1.1 ∧ 26 ≤ E.1.1 ∧ E.1.1 ≤ 36 := by { rw [w7 454 5 (by omega) (by omega)]; exact ⟨AC56.1, AC56.2.1, AC56.2.2.1⟩ }
            have K59 : ∀ k, 0 ≤ k → k < (l.length : Int) → h59 794 k = kch (kL l k) ∧ 0 ≤ kL l k ∧ kL l k ≤ 2 := fun k k0 k1 => by { rw [w7 _ _ (by omega) (by omega), fr6 _ _ (by omega) (by omega)]; exact K54 k k0 k1 }
            have PL : h59 468 4400 = (inf T).2.2.2 := by { rw [w7 _ _ (by omega) (by omega)]; exact (rawM_n O56.1).2.2.2.2 }
            rw [H56, fkE_h0 hl0, MK56] at w3
            rw [H56, fkE_h0 hl0, rsE_h0 hl0 gT0] at w6
            have fb := fkE_lo (E := EL E l) gT0 wpt.1 0 0
            have KD := kdE_r EV56 gT0
            have KV := kdv_r B n q4
            have KU := kch_3 KD KV
            have kyb : kyM (EL E l) T (kdv B n q4) ≤ 1000000 := by { unfold kyM; omega }
            have E3 := pO3_r (l := l) e4 g e5 e6 e7
            rw [← w1, ← VK] at KU
            have FK1 : kyM (EL E l) T (kdv B n q4) = 1000000 → fkE (EL E l) T 0 0 = 1000000 := fun z => by { unfold kyM at z; omega }
            have RM : ∀ hh : AH, (∀ a s, ¬ (a = 454 ∧ (s = 30 ∨ s = 31)) → ¬ (a = 472 ∧ (s = 6 ∨ s = 7)) → hh a s = h59 a s) → kyM (EL E l) T (kdv B n q4) = 1000000 → hh 454 68 = (l.length : Int) ∧ (∀ k, 0 ≤ k → k < (l.length : Int) → hh 794 k = kch (kL l k) ∧ 0 ≤ kL l k ∧ kL l k ≤ 2) ∧ hh 454 66 = kch (kdv B n q4) ∧ hh 454 69 = 4400 ∧ resM hh (rsE (EL E l) T 0) 4400 0 ∧ rawS hh T 4400 0 4401 (-1) ∧ sz T ≤ 1100 := fun hh f z => by { refine ⟨by rw [f _ _ (by omega) (by omega), V59.2.2.1]; exact ll.symm, fun k k0 k1 => by rw [f _ _ (by omega) (by omega)]; exact K59 k k0 k1, by rw [f _ _ (by omega) (by omega), V59.2.1]; exact VK, by rw [f _ _ (by omega) (by omega)]; exact V59.1, ?_, rawS_fr (h := h59) (fun s => f _ _ (by omega) (by omega)) (fun s => f _ _ (by omega) (by omega)) (fun s => f _ _ (by omega) (by omega)) (fun s => f _ _ (by omega) (by omega)) (fun s => f _ _ (by omega) (by omega)) (okN_C (E := EL E l) (by decide : (30 : Int) ≤ 50) (by omega) O56 w7 w5).1, by omega⟩; exact resM_ag (h := h59) (lo := 4400) (hi := 4400 + sz T) ⟨fun a s _ _ _ _ _ => f _ _ (by omega) (by omega), fun s _ _ => f _ _ (by omega) (by omega)⟩ (Int.le_refl _) (Int.le_refl _) (by omega) (by omega) (by omega) (okN_C (E := EL E l) (by decide : (30 : Int) ≤ 50) (by omega) O56 w7 w5).1 (w6 (FK1 z)) }
            clear F54 V54 K54 M54 O54 pp6 fr6 F56 V56 H56 N56 M56 OW56 PA EV56 O56 w4 w5 w6 FK1 K59
            rw [V59.1, V59.2.1]
            refine OK_if (fun c6 => ?_) (fun c6 => ?_)
            · skip
              try simp (disch := omega) only [jst_eq, jst_ne, jst_ni, jI_i, jcmp_lt, jcmp_gt, w32_id, jcpy_out, Sum.elim_inl, Sum.elim_inr, jt2, jt3, jt4, jt5, jt6, jt7, jt8] at c6
              have ky6 : MK h59 = min (MK h) (kyM (EL E l) T (kdv B n q4)) := by { have kd1 := KU.1.mp c6; rw [w3]; unfold kyM; rw [if_neg (show ¬ (kdE (EL E l) T ≠ -1 ∧ kdE (EL E l) T ≠ kdv B n q4) from fun z => z.1 kd1)]; omega }
              refine OK_mono (vX14_readAct_j154 (B := B) (n := n) (q := q7) (N := E.1.1) (by exact M59) (by (first | assumption | omega | ((try dsimp only [jt2, jt3, jt4]); first | omega | (simp (disch := omega) only [jst_eq, jst_ne, jst_ni, jst_o, jI_i, jcpy_out, w32_id, jdiv_nn, jshr_k, jand_255] <;> first | done | omega | assumption)) | (intros; simp (disch := omega) only [jst_eq, jst_ne, jst_ni, jst_o, jI_i, jcpy_out, w32_id, jdiv_nn, *] <;> first | done | omega) | (intros; simp (disch := omega) only [jst_eq, jst_ne, jst_ni, jst_o, jI_i, jcpy_out, w32_id, jdiv_nn] at * <;> first | done | omega | assumption) | (intros; first | rfl | (exfalso; omega) | ((repeat' apply And.intro) <;> first | assumption | rfl | omega | trivial)))) (by exact A59)) (fun r r8 => ?_)
              obtain ⟨y1, y2⟩ := r
              try dsimp only [Sum.elim_inl, Sum.elim_inr, jt2, jt3, jt4, jt5, jt6, jt7, jt8] at r8
              obtain ⟨fn8, fr8⟩ := r8
              try simp (disch := omega) only [jst_eq, jst_ne, jst_ni, jI_i, jcmp_lt, jcmp_gt, w32_id, jcpy_out, Sum.elim_inl, Sum.elim_inr, jt2, jt3, jt4, jt5, jt6, jt7, jt8] at fn8
              try simp (disch := omega) only [jst_eq, jst_ne, jst_ni, jI_i, jcmp_lt, jcmp_gt, w32_id, jcpy_out, Sum.elim_inl, Sum.elim_inr, jt2, jt3, jt4, jt5, jt6, jt7, jt8] at fr8
              try dsimp only [Sum.elim_inl, Sum.elim_inr, jt2, jt3, jt4, jt5, jt6, jt7, jt8]
              try dsimp only [Sum.elim_inl, Sum.elim_inr, jt2, jt3, jt4, jt5, jt6, jt7, jt8]
              refine ⟨?_, ?_, ?_⟩
              · exact ra_fin ek E3 fn8 ky6 (by omega) (RM _ fr8) kyb -- o47 e6.1
              · exact fun a s y1 y2 y3 y4 y5 => (by rw [fr8 a s (by omega) y2]; exact F59 a s y1 y2 y3 y4 y5) -- o48 e6.2
              · (rw [fr8 _ _ (by omega) (by omega), fr8 _ _ (by omega) (by omega)]; exact V59.2.2.2) -- o49 e6.3
            · skip
              try simp (disch := omega) only [jst_eq, jst_ne, jst_ni, jI_i, jcmp_lt, jcmp_gt, w32_id, jcpy_out, Sum.elim_inl, Sum.elim_inr, jt2, jt3, jt4, jt5, jt6, jt7, jt8] at c6
              refine OK_if (fun c7 => ?_) (fun c7 => ?_)
              · skip
                try simp (disch := omega) only [jst_eq, jst_ne, jst_ni, jI_i, jcmp_lt, jcmp_gt, w32_id, jcpy_out, Sum.elim_inl, Sum.elim_inr, jt2, jt3, jt4, jt5, jt6, jt7, jt8] at c7
                have ky7 : MK h59 = min (MK h) (kyM (EL E l) T (kdv B n q4)) := by { have kd1 := KU.2.mp c7; rw [w3]; unfold kyM; rw [if_neg (show ¬ (kdE (EL E l) T ≠ -1 ∧ kdE (EL E l) T ≠ kdv B n q4) from fun z => z.2 kd1)]; omega }
                refine OK_mono (vX14_readAct_j154 (B := B) (n := n) (q := q7) (N := E.1.1) (by exact M59) (by (first | assumption | omega | ((try dsimp only [jt2, jt3, jt4]); first | omega | (simp (disch := omega) only [jst_eq, jst_ne, jst_ni, jst_o, jI_i, jcpy_out, w32_id, jdiv_nn, jshr_k, jand_255] <;> first | done | omega | assumption)) | (intros; simp (disch := omega) only [jst_eq, jst_ne, jst_ni, jst_o, jI_i, jcpy_out, w32_id, jdiv_nn, *] <;> first | done | omega) | (intros; simp (disch := omega) only [jst_eq, jst_ne, jst_ni, jst_o, jI_i, jcpy_out, w32_id, jdiv_nn] at * <;> first | done | omega | assumption) | (intros; first | rfl | (exfalso; omega) | ((repeat' apply And.intro) <;> first | assumption | rfl | omega | trivial)))) (by exact A59)) (fun r r9 => ?_)
                obtain ⟨y3, y4⟩ := r
                try dsimp only [Sum.elim_inl, Sum.elim_inr, jt2, jt3, jt4, jt5, jt6, jt7, jt8] at r9
                obtain ⟨fn9, fr9⟩ := r9
                try simp (disch := omega) only [jst_eq, jst_ne, jst_ni, jI_i, jcmp_lt, jcmp_gt, w32_id, jcpy_out, Sum.elim_inl, Sum.elim_inr, jt2, jt3, jt4, jt5, jt6, jt7, jt8] at fn9
                try simp (disch := omega) only [jst_eq, jst_ne, jst_ni, jI_i, jcmp_lt, jcmp_gt, w32_id, jcpy_out, Sum.elim_inl, Sum.elim_inr, jt2, jt3, jt4, jt5, jt6, jt7, jt8] at fr9
                try dsimp only [Sum.elim_inl, Sum.elim_inr, jt2, jt3, jt4, jt5, jt6, jt7, jt8]
                try dsimp only [Sum.elim_inl, Sum.elim_inr, jt2, jt3, jt4, jt5, jt6, jt7, jt8]
                refine ⟨?_, ?_, ?_⟩
                · exact ra_fin ek E3 fn9 ky7 (by omega) (RM _ fr9) kyb -- o53 e7.1
                · exact fun a s y1 y2 y3 y4 y5 => (by rw [fr9 a s (by omega) y2]; exact F59 a s y1 y2 y3 y4 y5) -- o54 e7.2
                · (rw [fr9 _ _ (by omega) (by omega), fr9 _ _ (by omega) (by omega)]; exact V59.2.2.2) -- o55 e7.3
              · skip
                try simp (disch := omega) only [jst_eq, jst_ne, jst_ni, jI_i, jcmp_lt, jcmp_gt, w32_id, jcpy_out, Sum.elim_inl, Sum.elim_inr, jt2, jt3, jt4, jt5, jt6, jt7, jt8] at c7
                refine OK_jg (by (first | assumption | omega | ((try dsimp only [jt2, jt3, jt4]); first | omega | (simp (disch := omega) only [jst_eq, jst_ne, jst_ni, jst_o, jI_i, jcpy_out, w32_id, jdiv_nn, jshr_k, jand_255] <;> first | done | omega | assumption)) | (intros; simp (disch := omega) only [jst_eq, jst_ne, jst_ni, jst_o, jI_i, jcpy_out, w32_id, jdiv_nn, *] <;> first | done | omega) | (intros; simp (disch := omega) only [jst_eq, jst_ne, jst_ni, jst_o, jI_i, jcpy_out, w32_id, jdiv_nn] at * <;> first | done | omega | assumption) | (intros; first | rfl | (exfalso; omega) | ((repeat' apply And.intro) <;> first | assumption | rfl | omega | trivial)))) ?_ -- o56
                refine OK_jb (vX14_note _ _ (by (first | assumption | omega | ((try dsimp only [jt2, jt3, jt4]); first | omega | (simp (disch := omega) only [jst_eq, jst_ne, jst_ni, jst_o, jI_i, jcpy_out, w32_id, jdiv_nn, jshr_k, jand_255] <;> first | done | omega | assumption)) | (intros; simp (disch := omega) only [jst_eq, jst_ne, jst_ni, jst_o, jI_i, jcpy_out, w32_id, jdiv_nn, *] <;> first | done | omega) | (intros; simp (disch := omega) only [jst_eq, jst_ne, jst_ni, jst_o, jI_i, jcpy_out, w32_id, jdiv_nn] at * <;> first | done | omega | assumption) | (intros; first | rfl | (exfalso; omega) | ((repeat' apply And.intro) <;> first | assumption | rfl | omega | trivial)))) (by (rw [PL]; have := pI.1; have := pI.2.1; omega))) (fun h63 r10 => ?_)
                try dsimp only [Sum.elim_inl, Sum.elim_inr, jt2, jt3, jt4, jt5, jt6, jt7, jt8] at r10
                obtain ⟨m10, k10, fr10⟩ := r10
                try simp (disch := omega) only [jst_eq, jst_ne, jst_ni, jI_i, jcmp_lt, jcmp_gt, w32_id, jcpy_out, Sum.elim_inl, Sum.elim_inr, jt2, jt3, jt4, jt5, jt6, jt7, jt8] at m10
                try simp (disch := omega) only [jst_eq, jst_ne, jst_ni, jI_i, jcmp_lt, jcmp_gt, w32_id, jcpy_out, Sum.elim_inl, Sum.elim_inr, jt2, jt3, jt4, jt5, jt6, jt7, jt8] at k10
                try simp (disch := omega) only [jst_eq, jst_ne, jst_ni, jI_i, jcmp_lt, jcmp_gt, w32_id, jcpy_out, Sum.elim_inl, Sum.elim_inr, jt2, jt3, jt4, jt5, jt6, jt7, jt8] at fr10
                have ky8 : MK h63 = min (MK h) (kyM (EL E l) T (kdv B n q4)) := by { rw [k10, PL, w3]; unfold kyM; rw [if_pos (⟨fun z => c6 (KU.1.mpr z), fun z => c7 (KU.2.mpr z)⟩ : kdE (EL E l) T ≠ -1 ∧ kdE (EL E l) T ≠ kdv B n q4)]; omega }
                have M63 : MS B n q7 h63 := MS_fr M59 (fun s s0 s1 => fr10 _ _ (by omega))
                refine OK_mono (vX14_readAct_j154 (B := B) (n := n) (q := q7) (N := E.1.1) (by exact M63) (by (first | assumption | omega | ((try dsimp only [jt2, jt3, jt4]); first | omega | (simp (disch := omega) only [jst_eq, jst_ne, jst_ni, jst_o, jI_i, jcpy_out, w32_id, jdiv_nn, jshr_k, jand_255] <;> first | done | omega | assumption)) | (intros; simp (disch := omega) only [jst_eq, jst_ne, jst_ni, jst_o, jI_i, jcpy_out, w32_id, jdiv_nn, *] <;> first | done | omega) | (intros; simp (disch := omega) only [jst_eq, jst_ne, jst_ni, jst_o, jI_i, jcpy_out, w32_id, jdiv_nn] at * <;> first | done | omega | assumption) | (intros; first | rfl | (exfalso; omega) | ((repeat' apply And.intro) <;> first | assumption | rfl | omega | trivial)))) (by (rw [fr10 _ _ (by omega)]; exact A59))) (fun r r11 => ?_)
                obtain ⟨y5, y6⟩ := r
                try dsimp only [Sum.elim_inl, Sum.elim_inr, jt2, jt3, jt4, jt5, jt6, jt7, jt8] at r11
                obtain ⟨fn11, fr11⟩ := r11
                try simp (disch := omega) only [jst_eq, jst_ne, jst_ni, jI_i, jcmp_lt, jcmp_gt, w32_id, jcpy_out, Sum.elim_inl, Sum.elim_inr, jt2, jt3, jt4, jt5, jt6, jt7, jt8] at fn11
                try simp (disch := omega) only [jst_eq, jst_ne, jst_ni, jI_i, jcmp_lt, jcmp_gt, w32_id, jcpy_out, Sum.elim_inl, Sum.elim_inr, jt2, jt3, jt4, jt5, jt6, jt7, jt8] at fr11
                try dsimp only [Sum.elim_inl, Sum.elim_inr, jt2, jt3, jt4, jt5, jt6, jt7, jt8]
                try dsimp only [Sum.elim_inl, Sum.elim_inr, jt2, jt3, jt4, jt5, jt6, jt7, jt8]
                refine ⟨?_, ?_, ?_⟩
                · exact ra_fin ek E3 fn11 ky8 (by omega) (RM _ (fun a s y1 y2 => (fr11 a s y1 y2).trans (fr10 a s y1))) kyb -- o62 e8.1
                · exact fun a s y1 y2 y3 y4 y5 => (by rw [fr11 a s (by omega) y2, fr10 a s (by omega)]; exact F59 a s y1 y2 y3 y4 y5) -- o63 e8.2
                · (rw [fr11 _ _ (by omega) (by omega), fr10 _ _ (by omega), fr11 _ _ (by omega) (by omega), fr10 _ _ (by omega)]; exact V59.2.2.2) -- o64 e8.3

