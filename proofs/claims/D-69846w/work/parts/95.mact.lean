/-! m: an act of one's own is read, whole -/
def vMo (B : Int → Int) (n : Int) (E : EV) (K : Int) (P : Int ⊕ (Int × List Int × Int × TR)) (t : Int) (h' : AH) : Prop := match P with
  | .inl z => t = 472 ∧ MF z h'
  | .inr (q, l, kr, T) => vM3 E (min K (nkE B n E q)) (.inr (l, kr, T)) t h' ∧ h' 454 67 = tV B n q
theorem vMo_of {B : Int → Int} {n q K K' t : Int} {E : EV} {P : Int ⊕ (List Int × Int × TR)} {h' : AH} (v : vM3 E K' P t h') (e : K' = min K (nkE B n E q)) (na : h' 454 67 = tV B n q) : vMo B n E K (bS P fun y => .inr (q, y)) t h' := by
  subst e
  cases P with
  | inl z => exact v
  | inr y => obtain ⟨l, kr, T⟩ := y; exact ⟨v, na⟩
theorem pOw_n {B : Int → Int} {n q z : Int} (e : pN B n 830 q = .inl z) : pOw B n q = .inl z := by unfold pOw; rw [e]; rfl
theorem pOw_1 {B : Int → Int} {n q q1 : Int} (e : pN B n 830 q = .inr q1) (o : tO B n q1 = 1) : pOw B n q = bS (bS (bS (nx B n q1) (pKK B n true 2 [])) fun x => pO3 B n x.1 x.2) fun y => .inr (q1, y) := by unfold pOw; rw [e]; exact if_pos o
theorem pOw_0 {B : Int → Int} {n q q1 : Int} (e : pN B n 830 q = .inr q1) (o : tO B n q1 ≠ 1) : pOw B n q = .inl (tS B n q1) := by unfold pOw; rw [e]; exact if_neg o
theorem vX14_readAct_j52 (a1 : Int) {h : AH} {B : Int → Int} {n q : Int} {E : EV} {Rf : Int → TR} (hB : ∀ i, 0 ≤ i → i < n → 0 ≤ B i ∧ B i < 256) (rd : rdM B n E Rf h) (m : MS B n q h) (mi : MI h) (c17 : h 454 17 = 4400) (pl : 0 ≤ a1 ∧ a1 ≤ 2001) : OK (gX14_readAct_j52 a1 h) (fun r => jt2 r fun t h' => (vM3 E (min (min (MK h) (a1 * 8 + 2)) (if E.1.1 = 36 then 5 else 1000000)) (bS (pKK B n true 2 [] q) fun x => pO3 B n x.1 x.2) t h') ∧ (frA h h') ∧ (h' 454 67 = h 454 67 ∧ h' 454 35 = h 454 35)) := by
  unfold gX14_readAct_j52
  refine OK_jb (vX14_note _ _ (by (first | assumption | omega | ((try dsimp only [jt2, jt3, jt4]); first | omega | (simp (disch := omega) only [jst_eq, jst_ne, jst_ni, jst_o, jI_i, jcpy_out, w32_id, jdiv_nn, jshr_k, jand_255] <;> first | done | omega | assumption)) | (intros; simp (disch := omega) only [jst_eq, jst_ne, jst_ni, jst_o, jI_i, jcpy_out, w32_id, jdiv_nn, *] <;> first | done | omega) | (intros; simp (disch := omega) only [jst_eq, jst_ne, jst_ni, jst_o, jI_i, jcpy_out, w32_id, jdiv_nn] at * <;> first | done | omega | assumption) | (intros; first | rfl | (exfalso; omega) | ((repeat' apply And.intro) <;> first | assumption | rfl | omega | trivial)))) (by (first | assumption | omega | ((try dsimp only [jt2, jt3, jt4]); first | omega | (simp (disch := omega) only [jst_eq, jst_ne, jst_ni, jst_o, jI_i, jcpy_out, w32_id, jdiv_nn, jshr_k, jand_255] <;> first | done | omega | assumption)) | (intros; simp (disch := omega) only [jst_eq, jst_ne, jst_ni, jst_o, jI_i, jcpy_out, w32_id, jdiv_nn, *] <;> first | done | omega) | (intros; simp (disch := omega) only [jst_eq, jst_ne, jst_ni, jst_o, jI_i, jcpy_out, w32_id, jdiv_nn] at * <;> first | done | omega | assumption) | (intros; first | rfl | (exfalso; omega) | ((repeat' apply And.intro) <;> first | assumption | rfl | omega | trivial))))) (fun h26 r1 => ?_)
  try dsimp only [Sum.elim_inl, Sum.elim_inr, jt2, jt3, jt4, jt5, jt6, jt7, jt8] at r1
  obtain ⟨m1, k1, fr1⟩ := r1
  try simp (disch := omega) only [jst_eq, jst_ne, jst_ni, jI_i, jcmp_lt, jcmp_gt, w32_id, jcpy_out, Sum.elim_inl, Sum.elim_inr, jt2, jt3, jt4, jt5, jt6, jt7, jt8] at m1
  try simp (disch := omega) only [jst_eq, jst_ne, jst_ni, jI_i, jcmp_lt, jcmp_gt, w32_id, jcpy_out, Sum.elim_inl, Sum.elim_inr, jt2, jt3, jt4, jt5, jt6, jt7, jt8] at k1
  try simp (disch := omega) only [jst_eq, jst_ne, jst_ni, jI_i, jcmp_lt, jcmp_gt, w32_id, jcpy_out, Sum.elim_inl, Sum.elim_inr, jt2, jt3, jt4, jt5, jt6, jt7, jt8] at fr1
  have G26 : frA h h26 := frA_o (fun a s y1 y2 => fr1 a s (by omega))
  have R26 : rdM B n E Rf h26 := rdM_f rd G26 (fr1 _ _ (by omega))
  have M26 : MS B n q h26 := MS_fr m (fun s s0 s1 => fr1 _ _ (by omega))
  refine OK_mono (vX14_readAct_j58 (B := B) (n := n) (q := q) (E := E) (Rf := Rf) (by (first | assumption | omega | ((try dsimp only [jt2, jt3, jt4]); first | omega | (simp (disch := omega) only [jst_eq, jst_ne, jst_ni, jst_o, jI_i, jcpy_out, w32_id, jdiv_nn, jshr_k, jand_255] <;> first | done | omega | assumption)) | (intros; simp (disch := omega) only [jst_eq, jst_ne, jst_ni, jst_o, jI_i, jcpy_out, w32_id, jdiv_nn, *] <;> first | done | omega) | (intros; simp (disch := omega) only [jst_eq, jst_ne, jst_ni, jst_o, jI_i, jcpy_out, w32_id, jdiv_nn] at * <;> first | done | omega | assumption) | (intros; first | rfl | (exfalso; omega) | ((repeat' apply And.intro) <;> first | assumption | rfl | omega | trivial)))) (by exact R26) (by exact M26) (by (first | assumption | omega | ((try dsimp only [jt2, jt3, jt4]); first | omega | (simp (disch := omega) only [jst_eq, jst_ne, jst_ni, jst_o, jI_i, jcpy_out, w32_id, jdiv_nn, jshr_k, jand_255] <;> first | done | omega | assumption)) | (intros; simp (disch := omega) only [jst_eq, jst_ne, jst_ni, jst_o, jI_i, jcpy_out, w32_id, jdiv_nn, *] <;> first | done | omega) | (intros; simp (disch := omega) only [jst_eq, jst_ne, jst_ni, jst_o, jI_i, jcpy_out, w32_id, jdiv_nn] at * <;> first | done | omega | assumption) | (intros; first | rfl | (exfalso; omega) | ((repeat' apply And.intro) <;> first | assumption | rfl | omega | trivial)))) (by (first | assumption | omega | ((try dsimp only [jt2, jt3, jt4]); first | omega | (simp (disch := omega) only [jst_eq, jst_ne, jst_ni, jst_o, jI_i, jcpy_out, w32_id, jdiv_nn, jshr_k, jand_255] <;> first | done | omega | assumption)) | (intros; simp (disch := omega) only [jst_eq, jst_ne, jst_ni, jst_o, jI_i, jcpy_out, w32_id, jdiv_nn, *] <;> first | done | omega) | (intros; simp (disch := omega) only [jst_eq, jst_ne, jst_ni, jst_o, jI_i, jcpy_out, w32_id, jdiv_nn] at * <;> first | done | omega | assumption) | (intros; first | rfl | (exfalso; omega) | ((repeat' apply And.intro) <;> first | assumption | rfl | omega | trivial))))) (fun r r2 => ?_)
  obtain ⟨y1, y2⟩ := r
  try dsimp only [Sum.elim_inl, Sum.elim_inr, jt2, jt3, jt4, jt5, jt6, jt7, jt8] at r2
  obtain ⟨vm2, fr2, ne2⟩ := r2
  try simp (disch := omega) only [jst_eq, jst_ne, jst_ni, jI_i, jcmp_lt, jcmp_gt, w32_id, jcpy_out, Sum.elim_inl, Sum.elim_inr, jt2, jt3, jt4, jt5, jt6, jt7, jt8] at vm2
  try simp (disch := omega) only [jst_eq, jst_ne, jst_ni, jI_i, jcmp_lt, jcmp_gt, w32_id, jcpy_out, Sum.elim_inl, Sum.elim_inr, jt2, jt3, jt4, jt5, jt6, jt7, jt8] at fr2
  try simp (disch := omega) only [jst_eq, jst_ne, jst_ni, jI_i, jcmp_lt, jcmp_gt, w32_id, jcpy_out, Sum.elim_inl, Sum.elim_inr, jt2, jt3, jt4, jt5, jt6, jt7, jt8] at ne2
  try dsimp only [Sum.elim_inl, Sum.elim_inr, jt2, jt3, jt4, jt5, jt6, jt7, jt8]
  try dsimp only [Sum.elim_inl, Sum.elim_inr, jt2, jt3, jt4, jt5, jt6, jt7, jt8]
  refine ⟨?_, ?_, ?_⟩
  · (rw [← k1]; exact vm2) -- o8 e1.1
  · exact frA_t G26 fr2 -- o9 e1.2
  · (rw [ne2.1, ne2.2, fr1 _ _ (by omega), fr1 _ _ (by omega)]; exact ⟨rfl, rfl⟩) -- o10 e1.3
theorem vX14_readAct {h : AH} {B : Int → Int} {n : Int} {E : EV} {Rf : Int → TR} (hB : ∀ i, 0 ≤ i → i < n → 0 ≤ B i ∧ B i < 256) (rd : rdM B n E Rf h) : OK (gX14_readAct h) (fun r => jt2 r fun t h' => (vMo B n E 1000000 (bS (beg B n) (pOw B n)) t h') ∧ (frA h h') ∧ (h' 454 35 = h 454 35)) := by
  have T0 := rd.1
  have tn := T0.2.1
  have tn2 := T0.2.2.1
  unfold gX14_readAct
  refine OK_jb2 (vX14_begin (B := B) (n := n) (by (first | assumption | omega | ((try dsimp only [jt2, jt3, jt4]); first | omega | (simp (disch := omega) only [jst_eq, jst_ne, jst_ni, jst_o, jI_i, jcpy_out, w32_id, jdiv_nn, jshr_k, jand_255] <;> first | done | omega | assumption)) | (intros; simp (disch := omega) only [jst_eq, jst_ne, jst_ni, jst_o, jI_i, jcpy_out, w32_id, jdiv_nn, *] <;> first | done | omega) | (intros; simp (disch := omega) only [jst_eq, jst_ne, jst_ni, jst_o, jI_i, jcpy_out, w32_id, jdiv_nn] at * <;> first | done | omega | assumption) | (intros; first | rfl | (exfalso; omega) | ((repeat' apply And.intro) <;> first | assumption | rfl | omega | trivial)))) (by (first | assumption | omega | ((try dsimp only [jt2, jt3, jt4]); first | omega | (simp (disch := omega) only [jst_eq, jst_ne, jst_ni, jst_o, jI_i, jcpy_out, w32_id, jdiv_nn, jshr_k, jand_255] <;> first | done | omega | assumption)) | (intros; simp (disch := omega) only [jst_eq, jst_ne, jst_ni, jst_o, jI_i, jcpy_out, w32_id, jdiv_nn, *] <;> first | done | omega) | (intros; simp (disch := omega) only [jst_eq, jst_ne, jst_ni, jst_o, jI_i, jcpy_out, w32_id, jdiv_nn] at * <;> first | done | omega | assumption) | (intros; first | rfl | (exfalso; omega) | ((repeat' apply And.intro) <;> first | assumption | rfl | omega | trivial))))) (fun t2 h4 r1 => ?_)
  try dsimp only [Sum.elim_inl, Sum.elim_inr, jt2, jt3, jt4, jt5, jt6, jt7, jt8] at r1
  obtain ⟨rm1, ce1, fr1⟩ := r1
  try simp (disch := omega) only [jst_eq, jst_ne, jst_ni, jI_i, jcmp_lt, jcmp_gt, w32_id, jcpy_out, Sum.elim_inl, Sum.elim_inr, jt2, jt3, jt4, jt5, jt6, jt7, jt8] at rm1
  try simp (disch := omega) only [jst_eq, jst_ne, jst_ni, jI_i, jcmp_lt, jcmp_gt, w32_id, jcpy_out, Sum.elim_inl, Sum.elim_inr, jt2, jt3, jt4, jt5, jt6, jt7, jt8] at ce1
  try simp (disch := omega) only [jst_eq, jst_ne, jst_ni, jI_i, jcmp_lt, jcmp_gt, w32_id, jcpy_out, Sum.elim_inl, Sum.elim_inr, jt2, jt3, jt4, jt5, jt6, jt7, jt8] at fr1
  have cE := ce1
  have F4 : frA h h4 := frA_o (fun a s y1 y2 => fr1 a s (by omega) y2)
  refine OK_jq (fun c1 => ?_) (fun c1 => ?_)
  · skip
    refine OK_some ?_
    try dsimp only [Sum.elim_inl, Sum.elim_inr, jt2, jt3, jt4, jt5, jt6, jt7, jt8]
    try dsimp only [Sum.elim_inl, Sum.elim_inr, jt2, jt3, jt4, jt5, jt6, jt7, jt8]
    refine ⟨?_, ?_, ?_⟩
    · (obtain ⟨z, e, r1, r2⟩ := rM_l rm1 c1; rw [e]; exact ⟨r1, r2⟩) -- o3 e1.1
    · exact F4 -- o4 e1.2
    · exact fr1 _ _ (by omega) (by omega) -- o5 e1.3
  · skip
    obtain ⟨q, eq, ms⟩ := rM_r rm1 c1
    refine OK_jl ?_
    have F6 : frA h (jst h4 454 17 4400) := fun a s y1 y2 y3 y4 y5 => by { rw [jst_o (by omega)]; exact F4 a s y1 y2 y3 y4 y5 }
    have V6 : jst h4 454 17 4400 454 17 = 4400 ∧ jst h4 454 17 4400 454 30 = 0 ∧ jst h4 454 17 4400 454 31 = 2147483647 ∧ jst h4 454 17 4400 454 35 = h 454 35 := ⟨jst_eq, by { rw [jst_o (by omega)]; exact cE.1 }, by { rw [jst_o (by omega)]; exact cE.2 }, by { rw [jst_o (by omega)]; exact fr1 _ _ (by omega) (by omega) }⟩
    have M6 : MS B n q (jst h4 454 17 4400) := MS_fr ms (fun s s0 s1 => jst_o (by omega))
    generalize jst h4 454 17 4400 = g6 at *
    have R6 : rdM B n E Rf g6 := rdM_f rd F6 V6.2.2.2
    refine OK_jb2 (vX14_passName (B := B) (n := n) _ (by exact R6.1) (by (first | assumption | omega | ((try dsimp only [jt2, jt3, jt4]); first | omega | (simp (disch := omega) only [jst_eq, jst_ne, jst_ni, jst_o, jI_i, jcpy_out, w32_id, jdiv_nn, jshr_k, jand_255] <;> first | done | omega | assumption)) | (intros; simp (disch := omega) only [jst_eq, jst_ne, jst_ni, jst_o, jI_i, jcpy_out, w32_id, jdiv_nn, *] <;> first | done | omega) | (intros; simp (disch := omega) only [jst_eq, jst_ne, jst_ni, jst_o, jI_i, jcpy_out, w32_id, jdiv_nn] at * <;> first | done | omega | assumption) | (intros; first | rfl | (exfalso; omega) | ((repeat' apply And.intro) <;> first | assumption | rfl | omega | trivial)))) (by exact M6)) (fun t8 h10 r2 => ?_)
    try dsimp only [Sum.elim_inl, Sum.elim_inr, jt2, jt3, jt4, jt5, jt6, jt7, jt8] at r2
    obtain ⟨r2, fr2⟩ := r2
    try simp (disch := omega) only [jst_eq, jst_ne, jst_ni, jI_i, jcmp_lt, jcmp_gt, w32_id, jcpy_out, Sum.elim_inl, Sum.elim_inr, jt2, jt3, jt4, jt5, jt6, jt7, jt8] at r2
    try simp (disch := omega) only [jst_eq, jst_ne, jst_ni, jI_i, jcmp_lt, jcmp_gt, w32_id, jcpy_out, Sum.elim_inl, Sum.elim_inr, jt2, jt3, jt4, jt5, jt6, jt7, jt8] at fr2
    have F10 : frA h h10 := frA_t F6 (frA_o (fun a s y1 y2 => fr2 a s (by omega) y2))
    have V10 : h10 454 17 = 4400 ∧ h10 454 30 = 0 ∧ h10 454 31 = 2147483647 ∧ h10 454 35 = h 454 35 := by { rw [fr2 _ _ (by omega) (by omega), fr2 _ _ (by omega) (by omega), fr2 _ _ (by omega) (by omega), fr2 _ _ (by omega) (by omega)]; exact V6 }
    refine OK_jq (fun c2 => ?_) (fun c2 => ?_)
    · skip
      refine OK_some ?_
      try dsimp only [Sum.elim_inl, Sum.elim_inr, jt2, jt3, jt4, jt5, jt6, jt7, jt8]
      try dsimp only [Sum.elim_inl, Sum.elim_inr, jt2, jt3, jt4, jt5, jt6, jt7, jt8]
      refine ⟨?_, ?_, ?_⟩
      · (obtain ⟨z, e, t1, t2⟩ := rM_l r2 c2; rw [eq]; show vMo B n E _ (pOw B n q) _ _; rw [pOw_n e]; exact ⟨t1, t2⟩) -- o9 e2.1
      · exact F10 -- o10 e2.2
      · exact V10.2.2.2 -- o11 e2.3
    · skip
      obtain ⟨q1, e1, ms1⟩ := rM_r r2 c2
      have R10 : rdM B n E Rf h10 := rdM_f rd F10 V10.2.2.2
      have P10 : h10 454 29 = tS B n q1 := ms1.1.1
      have q10 := ms1.2.2.1
      have SR := tS_r (B := B) ms1.2.2.2
      refine OK_jlx (fun x12 ex12 => ?_)
      try simp (disch := omega) only [jst_eq, jst_ne, jst_ni, jI_i, jcmp_lt, jcmp_gt, w32_id, jcpy_out, Sum.elim_inl, Sum.elim_inr, jt2, jt3, jt4, jt5, jt6, jt7, jt8] at ex12
      refine OK_jb3 (vX14_takeName (B := B) (n := n) (by exact R10.1) (by (first | assumption | omega | ((try dsimp only [jt2, jt3, jt4]); first | omega | (simp (disch := omega) only [jst_eq, jst_ne, jst_ni, jst_o, jI_i, jcpy_out, w32_id, jdiv_nn, jshr_k, jand_255] <;> first | done | omega | assumption)) | (intros; simp (disch := omega) only [jst_eq, jst_ne, jst_ni, jst_o, jI_i, jcpy_out, w32_id, jdiv_nn, *] <;> first | done | omega) | (intros; simp (disch := omega) only [jst_eq, jst_ne, jst_ni, jst_o, jI_i, jcpy_out, w32_id, jdiv_nn] at * <;> first | done | omega | assumption) | (intros; first | rfl | (exfalso; omega) | ((repeat' apply And.intro) <;> first | assumption | rfl | omega | trivial)))) (by exact ms1)) (fun t14 v15 h16 r3 => ?_)
      try dsimp only [Sum.elim_inl, Sum.elim_inr, jt2, jt3, jt4, jt5, jt6, jt7, jt8] at r3
      obtain ⟨no3, r3, v13, fr3⟩ := r3
      try simp (disch := omega) only [jst_eq, jst_ne, jst_ni, jI_i, jcmp_lt, jcmp_gt, w32_id, jcpy_out, Sum.elim_inl, Sum.elim_inr, jt2, jt3, jt4, jt5, jt6, jt7, jt8] at no3
      try simp (disch := omega) only [jst_eq, jst_ne, jst_ni, jI_i, jcmp_lt, jcmp_gt, w32_id, jcpy_out, Sum.elim_inl, Sum.elim_inr, jt2, jt3, jt4, jt5, jt6, jt7, jt8] at r3
      try simp (disch := omega) only [jst_eq, jst_ne, jst_ni, jI_i, jcmp_lt, jcmp_gt, w32_id, jcpy_out, Sum.elim_inl, Sum.elim_inr, jt2, jt3, jt4, jt5, jt6, jt7, jt8] at v13
      try simp (disch := omega) only [jst_eq, jst_ne, jst_ni, jI_i, jcmp_lt, jcmp_gt, w32_id, jcpy_out, Sum.elim_inl, Sum.elim_inr, jt2, jt3, jt4, jt5, jt6, jt7, jt8] at fr3
      have F16 : frA h h16 := frA_t F10 (frA_o (fun a s y1 y2 => fr3 a s (by omega) y2))
      have V16 : h16 454 17 = 4400 ∧ h16 454 30 = 0 ∧ h16 454 31 = 2147483647 ∧ h16 454 35 = h 454 35 := by { rw [fr3 _ _ (by omega) (by omega), fr3 _ _ (by omega) (by omega), fr3 _ _ (by omega) (by omega), fr3 _ _ (by omega) (by omega)]; exact V10 }
      refine OK_jq (fun c3 => ?_) (fun c3 => ?_)
      · skip
        refine OK_some ?_
        try dsimp only [Sum.elim_inl, Sum.elim_inr, jt2, jt3, jt4, jt5, jt6, jt7, jt8]
        try dsimp only [Sum.elim_inl, Sum.elim_inr, jt2, jt3, jt4, jt5, jt6, jt7, jt8]
        refine ⟨?_, ?_, ?_⟩
        · (rw [eq]; show vMo B n E _ (pOw B n q) _ _; by_cases o : tO B n q1 = 1; { obtain ⟨z, e, t1, t2⟩ := rM_l (r3 o) c3; rw [pOw_1 e1 o, e]; exact ⟨t1, t2⟩ }; { rw [pOw_0 e1 o]; exact no3 o }) -- o15 e3.1
        · exact F16 -- o16 e3.2
        · exact V16.2.2.2 -- o17 e3.3
      · skip
        have o1 : tO B n q1 = 1 := Classical.byContradiction fun y => by { have := (no3 y).1; omega }
        obtain ⟨q2, e2, ms2⟩ := rM_r (r3 o1) c3
        have VN : v15 = tV B n q1 := v13 o1 c3
        have PO : bS (beg B n) (pOw B n) = bS (bS (bS (nx B n q1) (pKK B n true 2 [])) fun x => pO3 B n x.1 x.2) fun y => .inr (q1, y) := by { rw [eq]; show pOw B n q = _; exact pOw_1 e1 o1 }
        refine OK_jl ?_
        have F18 : frA h (jst h16 454 67 v15) := fun a s y1 y2 y3 y4 y5 => by { rw [jst_o (by omega)]; exact F16 a s y1 y2 y3 y4 y5 }
        have V18 : jst h16 454 67 v15 454 17 = 4400 ∧ jst h16 454 67 v15 454 30 = 0 ∧ jst h16 454 67 v15 454 31 = 2147483647 ∧ jst h16 454 67 v15 454 35 = h 454 35 := ⟨by { rw [jst_o (by omega)]; exact V16.1 }, by { rw [jst_o (by omega)]; exact V16.2.1 }, by { rw [jst_o (by omega)]; exact V16.2.2.1 }, by { rw [jst_o (by omega)]; exact V16.2.2.2 }⟩
        have N18 : jst h16 454 67 v15 454 67 = v15 := jst_eq
        have M18 : MS B n q2 (jst h16 454 67 v15) := MS_fr ms2 (fun s s0 s1 => jst_o (by omega))
        generalize jst h16 454 67 v15 = g18 at *
        have R18 : rdM B n E Rf g18 := rdM_f rd F18 V18.2.2.2
        have I18 : MI g18 := Or.inl ⟨V18.2.1, V18.2.2.1⟩
        have K18 : MK g18 = 1000000 := by { unfold MK; rw [if_pos (by omega)] }
        rw [N18]
        refine OK_jb (vX14_actOf (E := E) _ (by exact R18.2.1)) (fun v20 r4 => ?_)
        try dsimp only [Sum.elim_inl, Sum.elim_inr, jt2, jt3, jt4, jt5, jt6, jt7, jt8] at r4
        have v4 := r4
        clear r4
        try simp (disch := omega) only [jst_eq, jst_ne, jst_ni, jI_i, jcmp_lt, jcmp_gt, w32_id, jcpy_out, Sum.elim_inl, Sum.elim_inr, jt2, jt3, jt4, jt5, jt6, jt7, jt8] at v4
        refine OK_if (fun c4 => ?_) (fun c4 => ?_)
        · skip
          try simp (disch := omega) only [jst_eq, jst_ne, jst_ni, jI_i, jcmp_lt, jcmp_gt, w32_id, jcpy_out, Sum.elim_inl, Sum.elim_inr, jt2, jt3, jt4, jt5, jt6, jt7, jt8] at c4
          have NT : tkN E (tV B n q1) := Or.inl (by rw [← VN]; omega)
          refine OK_mono (vX14_readAct_j52 (B := B) (n := n) (q := q2) (E := E) (Rf := Rf) _ (by (first | assumption | omega | ((try dsimp only [jt2, jt3, jt4]); first | omega | (simp (disch := omega) only [jst_eq, jst_ne, jst_ni, jst_o, jI_i, jcpy_out, w32_id, jdiv_nn, jshr_k, jand_255] <;> first | done | omega | assumption)) | (intros; simp (disch := omega) only [jst_eq, jst_ne, jst_ni, jst_o, jI_i, jcpy_out, w32_id, jdiv_nn, *] <;> first | done | omega) | (intros; simp (disch := omega) only [jst_eq, jst_ne, jst_ni, jst_o, jI_i, jcpy_out, w32_id, jdiv_nn] at * <;> first | done | omega | assumption) | (intros; first | rfl | (exfalso; omega) | ((repeat' apply And.intro) <;> first | assumption | rfl | omega | trivial)))) (by exact R18) (by exact M18) (by (first | assumption | omega | ((try dsimp only [jt2, jt3, jt4]); first | omega | (simp (disch := omega) only [jst_eq, jst_ne, jst_ni, jst_o, jI_i, jcpy_out, w32_id, jdiv_nn, jshr_k, jand_255] <;> first | done | omega | assumption)) | (intros; simp (disch := omega) only [jst_eq, jst_ne, jst_ni, jst_o, jI_i, jcpy_out, w32_id, jdiv_nn, *] <;> first | done | omega) | (intros; simp (disch := omega) only [jst_eq, jst_ne, jst_ni, jst_o, jI_i, jcpy_out, w32_id, jdiv_nn] at * <;> first | done | omega | assumption) | (intros; first | rfl | (exfalso; omega) | ((repeat' apply And.intro) <;> first | assumption | rfl | omega | trivial)))) (by (first | assumption | omega | ((try dsimp only [jt2, jt3, jt4]); first | omega | (simp (disch := omega) only [jst_eq, jst_ne, jst_ni, jst_o, jI_i, jcpy_out, w32_id, jdiv_nn, jshr_k, jand_255] <;> first | done | omega | assumption)) | (intros; simp (disch := omega) only [jst_eq, jst_ne, jst_ni, jst_o, jI_i, jcpy_out, w32_id, jdiv_nn, *] <;> first | done | omega) | (intros; simp (disch := omega) only [jst_eq, jst_ne, jst_ni, jst_o, jI_i, jcpy_out, w32_id, jdiv_nn] at * <;> first | done | omega | assumption) | (intros; first | rfl | (exfalso; omega) | ((repeat' apply And.intro) <;> first | assumption | rfl | omega | trivial)))) (by (rw [ex12, P10]; omega))) (fun r r5 => ?_)
          obtain ⟨y1, y2⟩ := r
          try dsimp only [Sum.elim_inl, Sum.elim_inr, jt2, jt3, jt4, jt5, jt6, jt7, jt8] at r5
          obtain ⟨vm5, fr5, ne5⟩ := r5
          try simp (disch := omega) only [jst_eq, jst_ne, jst_ni, jI_i, jcmp_lt, jcmp_gt, w32_id, jcpy_out, Sum.elim_inl, Sum.elim_inr, jt2, jt3, jt4, jt5, jt6, jt7, jt8] at vm5
          try simp (disch := omega) only [jst_eq, jst_ne, jst_ni, jI_i, jcmp_lt, jcmp_gt, w32_id, jcpy_out, Sum.elim_inl, Sum.elim_inr, jt2, jt3, jt4, jt5, jt6, jt7, jt8] at fr5
          try simp (disch := omega) only [jst_eq, jst_ne, jst_ni, jI_i, jcmp_lt, jcmp_gt, w32_id, jcpy_out, Sum.elim_inl, Sum.elim_inr, jt2, jt3, jt4, jt5, jt6, jt7, jt8] at ne5
          try dsimp only [Sum.elim_inl, Sum.elim_inr, jt2, jt3, jt4, jt5, jt6, jt7, jt8]
          try dsimp only [Sum.elim_inl, Sum.elim_inr, jt2, jt3, jt4, jt5, jt6, jt7, jt8]
          refine ⟨?_, ?_, ?_⟩
          · (rw [PO, e2]; exact vMo_of vm5 (by rw [nkE_p NT, K18, ex12, P10, Int.min_assoc]) (by rw [ne5.1, N18]; exact VN)) -- o25 e4.1
          · exact frA_t F18 fr5 -- o26 e4.2
          · (rw [ne5.2]; exact V18.2.2.2) -- o27 e4.3
        · skip
          try simp (disch := omega) only [jst_eq, jst_ne, jst_ni, jI_i, jcmp_lt, jcmp_gt, w32_id, jcpy_out, Sum.elim_inl, Sum.elim_inr, jt2, jt3, jt4, jt5, jt6, jt7, jt8] at c4
          refine OK_jb (vX14_isTaken _) (fun v23 r6 => ?_)
          try dsimp only [Sum.elim_inl, Sum.elim_inr, jt2, jt3, jt4, jt5, jt6, jt7, jt8] at r6
          have tv6 := r6
          clear r6
          try simp (disch := omega) only [jst_eq, jst_ne, jst_ni, jI_i, jcmp_lt, jcmp_gt, w32_id, jcpy_out, Sum.elim_inl, Sum.elim_inr, jt2, jt3, jt4, jt5, jt6, jt7, jt8] at tv6
          refine OK_if (fun c5 => ?_) (fun c5 => ?_)
          · skip
            try simp (disch := omega) only [jst_eq, jst_ne, jst_ni, jI_i, jcmp_lt, jcmp_gt, w32_id, jcpy_out, Sum.elim_inl, Sum.elim_inr, jt2, jt3, jt4, jt5, jt6, jt7, jt8] at c5
            have NT : ¬ tkN E (tV B n q1) := fun z => by { have z2 := tv6.2; unfold tkN at z; rw [← VN] at z; omega }
            refine OK_mono (vX14_readAct_j58 (B := B) (n := n) (q := q2) (E := E) (Rf := Rf) (by (first | assumption | omega | ((try dsimp only [jt2, jt3, jt4]); first | omega | (simp (disch := omega) only [jst_eq, jst_ne, jst_ni, jst_o, jI_i, jcpy_out, w32_id, jdiv_nn, jshr_k, jand_255] <;> first | done | omega | assumption)) | (intros; simp (disch := omega) only [jst_eq, jst_ne, jst_ni, jst_o, jI_i, jcpy_out, w32_id, jdiv_nn, *] <;> first | done | omega) | (intros; simp (disch := omega) only [jst_eq, jst_ne, jst_ni, jst_o, jI_i, jcpy_out, w32_id, jdiv_nn] at * <;> first | done | omega | assumption) | (intros; first | rfl | (exfalso; omega) | ((repeat' apply And.intro) <;> first | assumption | rfl | omega | trivial)))) (by exact R18) (by exact M18) (by (first | assumption | omega | ((try dsimp only [jt2, jt3, jt4]); first | omega | (simp (disch := omega) only [jst_eq, jst_ne, jst_ni, jst_o, jI_i, jcpy_out, w32_id, jdiv_nn, jshr_k, jand_255] <;> first | done | omega | assumption)) | (intros; simp (disch := omega) only [jst_eq, jst_ne, jst_ni, jst_o, jI_i, jcpy_out, w32_id, jdiv_nn, *] <;> first | done | omega) | (intros; simp (disch := omega) only [jst_eq, jst_ne, jst_ni, jst_o, jI_i, jcpy_out, w32_id, jdiv_nn] at * <;> first | done | omega | assumption) | (intros; first | rfl | (exfalso; omega) | ((repeat' apply And.intro) <;> first | assumption | rfl | omega | trivial)))) (by (first | assumption | omega | ((try dsimp only [jt2, jt3, jt4]); first | omega | (simp (disch := omega) only [jst_eq, jst_ne, jst_ni, jst_o, jI_i, jcpy_out, w32_id, jdiv_nn, jshr_k, jand_255] <;> first | done | omega | assumption)) | (intros; simp (disch := omega) only [jst_eq, jst_ne, jst_ni, jst_o, jI_i, jcpy_out, w32_id, jdiv_nn, *] <;> first | done | omega) | (intros; simp (disch := omega) only [jst_eq, jst_ne, jst_ni, jst_o, jI_i, jcpy_out, w32_id, jdiv_nn] at * <;> first | done | omega | assumption) | (intros; first | rfl | (exfalso; omega) | ((repeat' apply And.intro) <;> first | assumption | rfl | omega | trivial))))) (fun r r7 => ?_)
            obtain ⟨y3, y4⟩ := r
            try dsimp only [Sum.elim_inl, Sum.elim_inr, jt2, jt3, jt4, jt5, jt6, jt7, jt8] at r7
            obtain ⟨vm7, fr7, ne7⟩ := r7
            try simp (disch := omega) only [jst_eq, jst_ne, jst_ni, jI_i, jcmp_lt, jcmp_gt, w32_id, jcpy_out, Sum.elim_inl, Sum.elim_inr, jt2, jt3, jt4, jt5, jt6, jt7, jt8] at vm7
            try simp (disch := omega) only [jst_eq, jst_ne, jst_ni, jI_i, jcmp_lt, jcmp_gt, w32_id, jcpy_out, Sum.elim_inl, Sum.elim_inr, jt2, jt3, jt4, jt5, jt6, jt7, jt8] at fr7
            try simp (disch := omega) only [jst_eq, jst_ne, jst_ni, jI_i, jcmp_lt, jcmp_gt, w32_id, jcpy_out, Sum.elim_inl, Sum.elim_inr, jt2, jt3, jt4, jt5, jt6, jt7, jt8] at ne7
            try dsimp only [Sum.elim_inl, Sum.elim_inr, jt2, jt3, jt4, jt5, jt6, jt7, jt8]
            try dsimp only [Sum.elim_inl, Sum.elim_inr, jt2, jt3, jt4, jt5, jt6, jt7, jt8]
            refine ⟨?_, ?_, ?_⟩
            · (rw [PO, e2]; exact vMo_of vm7 (by rw [nkE_n NT, K18]) (by rw [ne7.1, N18]; exact VN)) -- o33 e5.1
            · exact frA_t F18 fr7 -- o34 e5.2
            · (rw [ne7.2]; exact V18.2.2.2) -- o35 e5.3
          · skip
            try simp (disch := omega) only [jst_eq, jst_ne, jst_ni, jI_i, jcmp_lt, jcmp_gt, w32_id, jcpy_out, Sum.elim_inl, Sum.elim_inr, jt2, jt3, jt4, jt5, jt6, jt7, jt8] at c5
            have NT : tkN E (tV B n q1) := by { have z2 := tv6.2; have z1 := tv6.1; unfold tkN; rw [← VN]; omega }
            refine OK_mono (vX14_readAct_j52 (B := B) (n := n) (q := q2) (E := E) (Rf := Rf) _ (by (first | assumption | omega | ((try dsimp only [jt2, jt3, jt4]); first | omega | (simp (disch := omega) only [jst_eq, jst_ne, jst_ni, jst_o, jI_i, jcpy_out, w32_id, jdiv_nn, jshr_k, jand_255] <;> first | done | omega | assumption)) | (intros; simp (disch := omega) only [jst_eq, jst_ne, jst_ni, jst_o, jI_i, jcpy_out, w32_id, jdiv_nn, *] <;> first | done | omega) | (intros; simp (disch := omega) only [jst_eq, jst_ne, jst_ni, jst_o, jI_i, jcpy_out, w32_id, jdiv_nn] at * <;> first | done | omega | assumption) | (intros; first | rfl | (exfalso; omega) | ((repeat' apply And.intro) <;> first | assumption | rfl | omega | trivial)))) (by exact R18) (by exact M18) (by (first | assumption | omega | ((try dsimp only [jt2, jt3, jt4]); first | omega | (simp (disch := omega) only [jst_eq, jst_ne, jst_ni, jst_o, jI_i, jcpy_out, w32_id, jdiv_nn, jshr_k, jand_255] <;> first | done | omega | assumption)) | (intros; simp (disch := omega) only [jst_eq, jst_ne, jst_ni, jst_o, jI_i, jcpy_out, w32_id, jdiv_nn, *] <;> first | done | omega) | (intros; simp (disch := omega) only [jst_eq, jst_ne, jst_ni, jst_o, jI_i, jcpy_out, w32_id, jdiv_nn] at * <;> first | done | omega | assumption) | (intros; first | rfl | (exfalso; omega) | ((repeat' apply And.intro) <;> first | assumption | rfl | omega | trivial)))) (by (first | assumption | omega | ((try dsimp only [jt2, jt3, jt4]); first | omega | (simp (disch := omega) only [jst_eq, jst_ne, jst_ni, jst_o, jI_i, jcpy_out, w32_id, jdiv_nn, jshr_k, jand_255] <;> first | done | omega | assumption)) | (intros; simp (disch := omega) only [jst_eq, jst_ne, jst_ni, jst_o, jI_i, jcpy_out, w32_id, jdiv_nn, *] <;> first | done | omega) | (intros; simp (disch := omega) only [jst_eq, jst_ne, jst_ni, jst_o, jI_i, jcpy_out, w32_id, jdiv_nn] at * <;> first | done | omega | assumption) | (intros; first | rfl | (exfalso; omega) | ((repeat' apply And.intro) <;> first | assumption | rfl | omega | trivial)))) (by (rw [ex12, P10]; omega))) (fun r r8 => ?_)
            obtain ⟨y5, y6⟩ := r
            try dsimp only [Sum.elim_inl, Sum.elim_inr, jt2, jt3, jt4, jt5, jt6, jt7, jt8] at r8
            obtain ⟨vm8, fr8, ne8⟩ := r8
            try simp (disch := omega) only [jst_eq, jst_ne, jst_ni, jI_i, jcmp_lt, jcmp_gt, w32_id, jcpy_out, Sum.elim_inl, Sum.elim_inr, jt2, jt3, jt4, jt5, jt6, jt7, jt8] at vm8
            try simp (disch := omega) only [jst_eq, jst_ne, jst_ni, jI_i, jcmp_lt, jcmp_gt, w32_id, jcpy_out, Sum.elim_inl, Sum.elim_inr, jt2, jt3, jt4, jt5, jt6, jt7, jt8] at fr8
            try simp (disch := omega) only [jst_eq, jst_ne, jst_ni, jI_i, jcmp_lt, jcmp_gt, w32_id, jcpy_out, Sum.elim_inl, Sum.elim_inr, jt2, jt3, jt4, jt5, jt6, jt7, jt8] at ne8
            try dsimp only [Sum.elim_inl, Sum.elim_inr, jt2, jt3, jt4, jt5, jt6, jt7, jt8]
            try dsimp only [Sum.elim_inl, Sum.elim_inr, jt2, jt3, jt4, jt5, jt6, jt7, jt8]
            refine ⟨?_, ?_, ?_⟩
            · (rw [PO, e2]; exact vMo_of vm8 (by rw [nkE_p NT, K18, ex12, P10, Int.min_assoc]) (by rw [ne8.1, N18]; exact VN)) -- o42 e6.1
            · exact frA_t F18 fr8 -- o43 e6.2
            · (rw [ne8.2]; exact V18.2.2.2) -- o44 e6.3

