/-! x: a term alone; how reading is over -/
def pA (B : Int → Int) (n : Int) (sk : Bool) (R : Int ⊕ Int) : Int ⊕ TR := match bdT R (pT B n sk 13) with | .inl z => .inl z | .inr (t, q) => if tO B n q = 0 then .inr t else .inl (tS B n q)
def posA (B : Int → Int) (n T : Int) (sk : Bool) (E : EV) (wanted : Int) (R : Int ⊕ Int) (h : AH) (v : Int) (h' : AH) : Prop := (frT T (h T 0) h h' ∧ 0 ≤ h' 441 8 ∧ h' 441 8 ≤ 6 ∧ FK h' ≤ 1000000 ∧ h T 0 ≤ h' T 0) ∧ match pA B n sk R with
  | .inl z => h' 441 6 = 1 ∧ h' 441 7 = z
  | .inr t => h' 441 6 = 0 ∧ v = h T 0 ∧ h' T 0 = h T 0 + sz t ∧ rXc h' T (rsE E t (h 441 16)) v 0 (v + 1) ∧ FK h' = min (FK h) (min (fkE E t 0 (h 441 16)) (toE E t wanted)) ∧ h' 441 16 = h 441 16 + hlT t
theorem vX13_isEnd {h : AH} : OK (gX13_isEnd h) (fun v => v = if h 441 2 = 36 then 1 else 0) := by
  unfold gX13_isEnd
  refine OK_if (fun c1 => ?_) (fun c1 => ?_)
  · skip
    try simp (disch := omega) only [jst_eq, jst_ne, jst_ni, jI_i, jcmp_lt, jcmp_gt, w32_id, jcpy_out, Sum.elim_inl, Sum.elim_inr, jt2, jt3, jt4, jt5, jt6, jt7, jt8] at c1
    refine OK_some ?_
    try dsimp only [Sum.elim_inl, Sum.elim_inr, jt2, jt3, jt4, jt5, jt6, jt7, jt8]
    rw [if_pos c1] -- o1 e1
  · skip
    try simp (disch := omega) only [jst_eq, jst_ne, jst_ni, jI_i, jcmp_lt, jcmp_gt, w32_id, jcpy_out, Sum.elim_inl, Sum.elim_inr, jt2, jt3, jt4, jt5, jt6, jt7, jt8] at c1
    refine OK_some ?_
    try dsimp only [Sum.elim_inl, Sum.elim_inr, jt2, jt3, jt4, jt5, jt6, jt7, jt8]
    rw [if_neg c1] -- o2 e2
section AL
variable {B : Int → Int} {n T u wanted v : Int} {sk : Bool} {E : EV} {R : Int ⊕ Int} {h h3 h9 : AH}
def sR (x : PR) : Int ⊕ Int := match x with | .inl z => .inl z | .inr x => .inr x.2
theorem al_sx (p : posL B n T E u wanted h (bdT R (pT B n sk 13)) v h3) : Sx B n (sR (bdT R (pT B n sk 13))) h3 := by
  have r := p.2
  cases e : bdT R (pT B n sk 13) with
  | inl z => rw [e] at r; exact r.1
  | inr x => obtain ⟨t, q⟩ := x; rw [e] at r; exact r.1
theorem al_no (hT : T ≤ 400) (p : posL B n T E u wanted h (bdT R (pT B n sk 13)) v h3) (b : h3 441 6 = 0) (c : ¬ h3 441 2 = 36) (nb : h9 441 6 = 1 ∧ h9 441 7 = plc B n (sR (bdT R (pT B n sk 13)))) (fr : ∀ a s, ¬ (a = 441 ∧ (s = 6 ∨ s = 7)) → h9 a s = h3 a s) : posA B n T sk E wanted R h v h9 := by
  obtain ⟨⟨c1, c2, c3, c4, c5, c6, c7, c8⟩, r⟩ := p
  refine ⟨⟨frT_tr (Int.le_refl _) c1 (frT_o (fun a s z => fr a s (by omega))), by rw [fr _ _ (by omega)]; exact c5, by rw [fr _ _ (by omega)]; exact c6, by rw [FK_fr (fr _ _ (by omega)) (fr _ _ (by omega))]; exact c7, by rw [fr _ _ (by omega)]; exact c4⟩, ?_⟩
  cases e : bdT R (pT B n sk 13) with
  | inl z =>
    rw [e] at nb
    have ep : pA B n sk R = .inl z := by unfold pA; rw [e]
    rw [ep]; exact nb
  | inr x =>
    obtain ⟨t, q⟩ := x
    rw [e] at nb r
    have nq := (Sx_inr r.1).1
    have o0 : ¬ tO B n q = 0 := fun z => c (by rw [nq.2.1.2.1]; exact (chX_1 (tok_o B n q)).2.2.2.1.mp z)
    have ep : pA B n sk R = .inl (tS B n q) := by unfold pA; rw [e]; exact if_neg o0
    rw [ep]; exact nb
theorem al_ok (p : posL B n T E u wanted h (bdT R (pT B n sk 13)) v h3) (b : h3 441 6 = 0) (c : h3 441 2 = 36) : posA B n T sk E wanted R h v h3 := by
  obtain ⟨⟨c1, c2, c3, c4, c5, c6, c7, c8⟩, r⟩ := p
  refine ⟨⟨c1, c5, c6, c7, c4⟩, ?_⟩
  cases e : bdT R (pT B n sk 13) with
  | inl z =>
    rw [e] at r
    have := Sx_sort r.1 b
    omega
  | inr x =>
    obtain ⟨t, q⟩ := x
    rw [e] at r
    obtain ⟨r1, r2, r3, r4, r5, r6, r7, r8, r9⟩ := r
    have nq := (Sx_inr r1).1
    have o0 : tO B n q = 0 := (chX_1 (tok_o B n q)).2.2.2.1.mpr (by rw [← nq.2.1.2.1]; exact c)
    have ep : pA B n sk R = .inr t := by unfold pA; rw [e]; exact if_pos o0
    rw [ep]; exact ⟨b, r3, r4, r6, r7, r8⟩
theorem al_br (p : posL B n T E u wanted h (bdT R (pT B n sk 13)) v h3) (b : ¬ h3 441 6 = 0) : posA B n T sk E wanted R h v h3 := by
  obtain ⟨⟨c1, c2, c3, c4, c5, c6, c7, c8⟩, r⟩ := p
  refine ⟨⟨c1, c5, c6, c7, c4⟩, ?_⟩
  cases e : bdT R (pT B n sk 13) with
  | inl z =>
    rw [e] at r
    have ep : pA B n sk R = .inl z := by unfold pA; rw [e]
    obtain ⟨m1, m2⟩ := Sx_br r.1 b
    cases m2
    rw [ep]; exact ⟨m1, rfl⟩
  | inr x =>
    obtain ⟨t, q⟩ := x
    rw [e] at r
    exact absurd (Sx_inr r.1).1.1 b
end AL
theorem vX13_alone (a1 : Int) {h : AH} {B : Int → Int} {n A T u : Int} {sk : Bool} {E : EV} {R : Int ⊕ Int} (hB : ∀ i, 0 ≤ i → i < n → 0 ≤ B i ∧ B i < 256) (s : Sx B n R h) (uq : ∀ q, R = .inr q → u ≤ q) (un : u ≤ n) (p : preT B n A T sk E u h) : OK (gX13_alone a1 h) (fun r => jt2 r fun v h' => posA B n T sk E a1 R h v h') := by
  have p0 := p
  have cp := p.1.2.2.2.2.2.1
  have Tb : 258 ≤ T ∧ T ≤ 400 := ⟨cp.2.2.2.2.2.1, cp.2.2.2.2.2.2.1⟩
  unfold gX13_alone
  refine OK_jb2 (vX13_told (B := B) (n := n) (A := A) (T := T) (u := u) (sk := sk) (E := E) (R := R) _ (by (first | assumption | omega | ((try dsimp only [jt2, jt3, jt4]); first | omega | (simp (disch := omega) only [jst_eq, jst_ne, jst_ni, jst_o, jI_i, jcpy_out, w32_id, jdiv_nn, jshr_k, jand_255] <;> first | done | omega | assumption)) | (intros; simp (disch := omega) only [jst_eq, jst_ne, jst_ni, jst_o, jI_i, jcpy_out, w32_id, jdiv_nn, *] <;> first | done | omega) | (intros; simp (disch := omega) only [jst_eq, jst_ne, jst_ni, jst_o, jI_i, jcpy_out, w32_id, jdiv_nn] at * <;> first | done | omega | assumption) | (intros; first | rfl | (exfalso; omega) | ((repeat' apply And.intro) <;> first | assumption | rfl | omega | trivial)))) (by (first | assumption | omega | ((try dsimp only [jt2, jt3, jt4]); first | omega | (simp (disch := omega) only [jst_eq, jst_ne, jst_ni, jst_o, jI_i, jcpy_out, w32_id, jdiv_nn, jshr_k, jand_255] <;> first | done | omega | assumption)) | (intros; simp (disch := omega) only [jst_eq, jst_ne, jst_ni, jst_o, jI_i, jcpy_out, w32_id, jdiv_nn, *] <;> first | done | omega) | (intros; simp (disch := omega) only [jst_eq, jst_ne, jst_ni, jst_o, jI_i, jcpy_out, w32_id, jdiv_nn] at * <;> first | done | omega | assumption) | (intros; first | rfl | (exfalso; omega) | ((repeat' apply And.intro) <;> first | assumption | rfl | omega | trivial)))) (by (first | assumption | omega | ((try dsimp only [jt2, jt3, jt4]); first | omega | (simp (disch := omega) only [jst_eq, jst_ne, jst_ni, jst_o, jI_i, jcpy_out, w32_id, jdiv_nn, jshr_k, jand_255] <;> first | done | omega | assumption)) | (intros; simp (disch := omega) only [jst_eq, jst_ne, jst_ni, jst_o, jI_i, jcpy_out, w32_id, jdiv_nn, *] <;> first | done | omega) | (intros; simp (disch := omega) only [jst_eq, jst_ne, jst_ni, jst_o, jI_i, jcpy_out, w32_id, jdiv_nn] at * <;> first | done | omega | assumption) | (intros; first | rfl | (exfalso; omega) | ((repeat' apply And.intro) <;> first | assumption | rfl | omega | trivial)))) (by (first | assumption | omega | ((try dsimp only [jt2, jt3, jt4]); first | omega | (simp (disch := omega) only [jst_eq, jst_ne, jst_ni, jst_o, jI_i, jcpy_out, w32_id, jdiv_nn, jshr_k, jand_255] <;> first | done | omega | assumption)) | (intros; simp (disch := omega) only [jst_eq, jst_ne, jst_ni, jst_o, jI_i, jcpy_out, w32_id, jdiv_nn, *] <;> first | done | omega) | (intros; simp (disch := omega) only [jst_eq, jst_ne, jst_ni, jst_o, jI_i, jcpy_out, w32_id, jdiv_nn] at * <;> first | done | omega | assumption) | (intros; first | rfl | (exfalso; omega) | ((repeat' apply And.intro) <;> first | assumption | rfl | omega | trivial)))) (by (first | assumption | omega | ((try dsimp only [jt2, jt3, jt4]); first | omega | (simp (disch := omega) only [jst_eq, jst_ne, jst_ni, jst_o, jI_i, jcpy_out, w32_id, jdiv_nn, jshr_k, jand_255] <;> first | done | omega | assumption)) | (intros; simp (disch := omega) only [jst_eq, jst_ne, jst_ni, jst_o, jI_i, jcpy_out, w32_id, jdiv_nn, *] <;> first | done | omega) | (intros; simp (disch := omega) only [jst_eq, jst_ne, jst_ni, jst_o, jI_i, jcpy_out, w32_id, jdiv_nn] at * <;> first | done | omega | assumption) | (intros; first | rfl | (exfalso; omega) | ((repeat' apply And.intro) <;> first | assumption | rfl | omega | trivial))))) (fun v2 h3 r1 => ?_)
  try dsimp only [Sum.elim_inl, Sum.elim_inr, jt2, jt3, jt4, jt5, jt6, jt7, jt8] at r1
  have pl1 := r1
  clear r1
  try simp (disch := omega) only [jst_eq, jst_ne, jst_ni, jI_i, jcmp_lt, jcmp_gt, w32_id, jcpy_out, Sum.elim_inl, Sum.elim_inr, jt2, jt3, jt4, jt5, jt6, jt7, jt8] at pl1
  have SS := al_sx pl1
  refine OK_if (fun c1 => ?_) (fun c1 => ?_)
  · skip
    try simp (disch := omega) only [jst_eq, jst_ne, jst_ni, jI_i, jcmp_lt, jcmp_gt, w32_id, jcpy_out, Sum.elim_inl, Sum.elim_inr, jt2, jt3, jt4, jt5, jt6, jt7, jt8] at c1
    refine OK_jb (vX13_isEnd) (fun v6 r2 => ?_)
    try dsimp only [Sum.elim_inl, Sum.elim_inr, jt2, jt3, jt4, jt5, jt6, jt7, jt8] at r2
    have ev2 := r2
    clear r2
    try simp (disch := omega) only [jst_eq, jst_ne, jst_ni, jI_i, jcmp_lt, jcmp_gt, w32_id, jcpy_out, Sum.elim_inl, Sum.elim_inr, jt2, jt3, jt4, jt5, jt6, jt7, jt8] at ev2
    refine OK_if (fun c2 => ?_) (fun c2 => ?_)
    · skip
      try simp (disch := omega) only [jst_eq, jst_ne, jst_ni, jI_i, jcmp_lt, jcmp_gt, w32_id, jcpy_out, Sum.elim_inl, Sum.elim_inr, jt2, jt3, jt4, jt5, jt6, jt7, jt8] at c2
      refine OK_jb (vX13_no (B := B) (n := n) (r := sR (bdT R (pT B n sk 13))) (by (first | assumption | omega | ((try dsimp only [jt2, jt3, jt4]); first | omega | (simp (disch := omega) only [jst_eq, jst_ne, jst_ni, jst_o, jI_i, jcpy_out, w32_id, jdiv_nn, jshr_k, jand_255] <;> first | done | omega | assumption)) | (intros; simp (disch := omega) only [jst_eq, jst_ne, jst_ni, jst_o, jI_i, jcpy_out, w32_id, jdiv_nn, *] <;> first | done | omega) | (intros; simp (disch := omega) only [jst_eq, jst_ne, jst_ni, jst_o, jI_i, jcpy_out, w32_id, jdiv_nn] at * <;> first | done | omega | assumption) | (intros; first | rfl | (exfalso; omega) | ((repeat' apply And.intro) <;> first | assumption | rfl | omega | trivial))))) (fun h9 r3 => ?_)
      try dsimp only [Sum.elim_inl, Sum.elim_inr, jt2, jt3, jt4, jt5, jt6, jt7, jt8] at r3
      obtain ⟨nb3, fr3⟩ := r3
      try simp (disch := omega) only [jst_eq, jst_ne, jst_ni, jI_i, jcmp_lt, jcmp_gt, w32_id, jcpy_out, Sum.elim_inl, Sum.elim_inr, jt2, jt3, jt4, jt5, jt6, jt7, jt8] at nb3
      try simp (disch := omega) only [jst_eq, jst_ne, jst_ni, jI_i, jcmp_lt, jcmp_gt, w32_id, jcpy_out, Sum.elim_inl, Sum.elim_inr, jt2, jt3, jt4, jt5, jt6, jt7, jt8] at fr3
      refine OK_some ?_
      try dsimp only [Sum.elim_inl, Sum.elim_inr, jt2, jt3, jt4, jt5, jt6, jt7, jt8]
      exact al_no Tb.2 pl1 c1 (fun z => by rw [if_pos z] at ev2; omega) nb3 fr3 -- o7 e1
    · skip
      try simp (disch := omega) only [jst_eq, jst_ne, jst_ni, jI_i, jcmp_lt, jcmp_gt, w32_id, jcpy_out, Sum.elim_inl, Sum.elim_inr, jt2, jt3, jt4, jt5, jt6, jt7, jt8] at c2
      refine OK_some ?_
      try dsimp only [Sum.elim_inl, Sum.elim_inr, jt2, jt3, jt4, jt5, jt6, jt7, jt8]
      exact al_ok pl1 c1 (Classical.byContradiction fun z => by rw [if_neg z] at ev2; omega) -- o8 e2
  · skip
    try simp (disch := omega) only [jst_eq, jst_ne, jst_ni, jI_i, jcmp_lt, jcmp_gt, w32_id, jcpy_out, Sum.elim_inl, Sum.elim_inr, jt2, jt3, jt4, jt5, jt6, jt7, jt8] at c1
    refine OK_some ?_
    try dsimp only [Sum.elim_inl, Sum.elim_inr, jt2, jt3, jt4, jt5, jt6, jt7, jt8]
    exact al_br pl1 c1 -- o9 e3
theorem vX13_result {h : AH} (f : 0 ≤ h 441 8 ∧ h 441 8 ≤ 6) (g : FK h ≤ 1000000) (b : h 441 6 = 0 ∨ h 441 6 = 1) : OK (gX13_result h) (fun r => jt2 r fun v h' => (h 441 6 = 1 → v = -11 ∧ h' = jst h 200 56 (h 441 7)) ∧ (h 441 6 = 0 → FK h = 1000000 → v = 0 ∧ h' = h) ∧ (h 441 6 = 0 → FK h ≠ 1000000 → v = -10 - FK h % 8 ∧ h' = jst h 200 56 (FK h / 8) ∧ 1 ≤ FK h % 8 ∧ FK h % 8 ≤ 6)) := by
  unfold gX13_result
  refine OK_if (fun c1 => ?_) (fun c1 => ?_)
  · skip
    try simp (disch := omega) only [jst_eq, jst_ne, jst_ni, jI_i, jcmp_lt, jcmp_gt, w32_id, jcpy_out, Sum.elim_inl, Sum.elim_inr, jt2, jt3, jt4, jt5, jt6, jt7, jt8] at c1
    refine OK_if (fun c2 => ?_) (fun c2 => ?_)
    · skip
      try simp (disch := omega) only [jst_eq, jst_ne, jst_ni, jI_i, jcmp_lt, jcmp_gt, w32_id, jcpy_out, Sum.elim_inl, Sum.elim_inr, jt2, jt3, jt4, jt5, jt6, jt7, jt8] at c2
      refine OK_some ?_
      try dsimp only [Sum.elim_inl, Sum.elim_inr, jt2, jt3, jt4, jt5, jt6, jt7, jt8]
      try dsimp only [Sum.elim_inl, Sum.elim_inr, jt2, jt3, jt4, jt5, jt6, jt7, jt8]
      refine ⟨?_, ?_, ?_⟩
      · (first | assumption | omega | ((try dsimp only [jt2, jt3, jt4]); first | omega | (simp (disch := omega) only [jst_eq, jst_ne, jst_ni, jst_o, jI_i, jcpy_out, w32_id, jdiv_nn, jshr_k, jand_255] <;> first | done | omega | assumption)) | (intros; simp (disch := omega) only [jst_eq, jst_ne, jst_ni, jst_o, jI_i, jcpy_out, w32_id, jdiv_nn, *] <;> first | done | omega) | (intros; simp (disch := omega) only [jst_eq, jst_ne, jst_ni, jst_o, jI_i, jcpy_out, w32_id, jdiv_nn] at * <;> first | done | omega | assumption) | (intros; first | rfl | (exfalso; omega) | ((repeat' apply And.intro) <;> first | assumption | rfl | omega | trivial))) -- o1 e1.1
      · (first | assumption | omega | ((try dsimp only [jt2, jt3, jt4]); first | omega | (simp (disch := omega) only [jst_eq, jst_ne, jst_ni, jst_o, jI_i, jcpy_out, w32_id, jdiv_nn, jshr_k, jand_255] <;> first | done | omega | assumption)) | (intros; simp (disch := omega) only [jst_eq, jst_ne, jst_ni, jst_o, jI_i, jcpy_out, w32_id, jdiv_nn, *] <;> first | done | omega) | (intros; simp (disch := omega) only [jst_eq, jst_ne, jst_ni, jst_o, jI_i, jcpy_out, w32_id, jdiv_nn] at * <;> first | done | omega | assumption) | (intros; first | rfl | (exfalso; omega) | ((repeat' apply And.intro) <;> first | assumption | rfl | omega | trivial))) -- o2 e1.2
      · (intro _ z; exfalso; exact z (by unfold FK; rw [if_pos (by omega)])) -- o3 e1.3
    · skip
      try simp (disch := omega) only [jst_eq, jst_ne, jst_ni, jI_i, jcmp_lt, jcmp_gt, w32_id, jcpy_out, Sum.elim_inl, Sum.elim_inr, jt2, jt3, jt4, jt5, jt6, jt7, jt8] at c2
      refine OK_jl ?_
      refine OK_some ?_
      try dsimp only [Sum.elim_inl, Sum.elim_inr, jt2, jt3, jt4, jt5, jt6, jt7, jt8]
      try dsimp only [Sum.elim_inl, Sum.elim_inr, jt2, jt3, jt4, jt5, jt6, jt7, jt8]
      refine ⟨?_, ?_, ?_⟩
      · (first | assumption | omega | ((try dsimp only [jt2, jt3, jt4]); first | omega | (simp (disch := omega) only [jst_eq, jst_ne, jst_ni, jst_o, jI_i, jcpy_out, w32_id, jdiv_nn, jshr_k, jand_255] <;> first | done | omega | assumption)) | (intros; simp (disch := omega) only [jst_eq, jst_ne, jst_ni, jst_o, jI_i, jcpy_out, w32_id, jdiv_nn, *] <;> first | done | omega) | (intros; simp (disch := omega) only [jst_eq, jst_ne, jst_ni, jst_o, jI_i, jcpy_out, w32_id, jdiv_nn] at * <;> first | done | omega | assumption) | (intros; first | rfl | (exfalso; omega) | ((repeat' apply And.intro) <;> first | assumption | rfl | omega | trivial))) -- o4 e2.1
      · (intro _ z; exfalso; unfold FK at z; rw [if_neg (by omega)] at z; omega) -- o5 e2.2
      · (intro _ z; have e : FK h = h 441 9 * 8 + h 441 8 := (by unfold FK; rw [if_neg (by omega)]); refine ⟨by rw [e]; (try simp (disch := omega) only [jst_eq, jst_ne, jst_ni, jI_i, jcmp_lt, jcmp_gt, w32_id, jcpy_out, Sum.elim_inl, Sum.elim_inr, jt2, jt3, jt4, jt5, jt6, jt7, jt8]); omega, by rw [e]; congr 1; omega, by omega, by omega⟩) -- o6 e2.3
  · skip
    try simp (disch := omega) only [jst_eq, jst_ne, jst_ni, jI_i, jcmp_lt, jcmp_gt, w32_id, jcpy_out, Sum.elim_inl, Sum.elim_inr, jt2, jt3, jt4, jt5, jt6, jt7, jt8] at c1
    refine OK_jl ?_
    refine OK_some ?_
    try dsimp only [Sum.elim_inl, Sum.elim_inr, jt2, jt3, jt4, jt5, jt6, jt7, jt8]
    try dsimp only [Sum.elim_inl, Sum.elim_inr, jt2, jt3, jt4, jt5, jt6, jt7, jt8]
    refine ⟨?_, ?_, ?_⟩
    · (first | assumption | omega | ((try dsimp only [jt2, jt3, jt4]); first | omega | (simp (disch := omega) only [jst_eq, jst_ne, jst_ni, jst_o, jI_i, jcpy_out, w32_id, jdiv_nn, jshr_k, jand_255] <;> first | done | omega | assumption)) | (intros; simp (disch := omega) only [jst_eq, jst_ne, jst_ni, jst_o, jI_i, jcpy_out, w32_id, jdiv_nn, *] <;> first | done | omega) | (intros; simp (disch := omega) only [jst_eq, jst_ne, jst_ni, jst_o, jI_i, jcpy_out, w32_id, jdiv_nn] at * <;> first | done | omega | assumption) | (intros; first | rfl | (exfalso; omega) | ((repeat' apply And.intro) <;> first | assumption | rfl | omega | trivial))) -- o7 e3.1
    · (first | assumption | omega | ((try dsimp only [jt2, jt3, jt4]); first | omega | (simp (disch := omega) only [jst_eq, jst_ne, jst_ni, jst_o, jI_i, jcpy_out, w32_id, jdiv_nn, jshr_k, jand_255] <;> first | done | omega | assumption)) | (intros; simp (disch := omega) only [jst_eq, jst_ne, jst_ni, jst_o, jI_i, jcpy_out, w32_id, jdiv_nn, *] <;> first | done | omega) | (intros; simp (disch := omega) only [jst_eq, jst_ne, jst_ni, jst_o, jI_i, jcpy_out, w32_id, jdiv_nn] at * <;> first | done | omega | assumption) | (intros; first | rfl | (exfalso; omega) | ((repeat' apply And.intro) <;> first | assumption | rfl | omega | trivial))) -- o8 e3.2
    · (first | assumption | omega | ((try dsimp only [jt2, jt3, jt4]); first | omega | (simp (disch := omega) only [jst_eq, jst_ne, jst_ni, jst_o, jI_i, jcpy_out, w32_id, jdiv_nn, jshr_k, jand_255] <;> first | done | omega | assumption)) | (intros; simp (disch := omega) only [jst_eq, jst_ne, jst_ni, jst_o, jI_i, jcpy_out, w32_id, jdiv_nn, *] <;> first | done | omega) | (intros; simp (disch := omega) only [jst_eq, jst_ne, jst_ni, jst_o, jI_i, jcpy_out, w32_id, jdiv_nn] at * <;> first | done | omega | assumption) | (intros; first | rfl | (exfalso; omega) | ((repeat' apply And.intro) <;> first | assumption | rfl | omega | trivial))) -- o9 e3.3

