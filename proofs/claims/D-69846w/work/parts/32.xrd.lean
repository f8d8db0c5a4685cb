/-! x's reader: state, small steps -/
theorem tok_o (B : Int → Int) (n q : Int) : tO B n q = 0 ∨ tO B n q = 1 ∨ tO B n q = 2 ∨ tO B n q = 3 ∨ (tO B n q = 4 ∧ (sgn (tV B n q) ∨ tV B n q = 256)) ∨ tO B n q = 5 := by
  unfold tO tV tK
  by_cases c0 : tC B n q < 0
  · rw [if_pos c0]; left; rfl
  rw [if_neg c0]
  by_cases c : isL (tC B n q) = true
  · rw [if_pos c]
    by_cases k : letE B n (tS B n q) - tS B n q ≤ 8
    · rw [if_pos k]; right; left; rfl
    · rw [if_neg k]; right; right; right; right; right; rfl
  rw [if_neg c]
  by_cases c1 : isD (tC B n q) = true
  · rw [if_pos c1]
    by_cases k : digE B n (tS B n q) - tS B n q ≤ 2 ∧ dgs B (tS B n q) (digE B n (tS B n q) - tS B n q).toNat ≤ 15
    · rw [if_pos k]; right; right; left; rfl
    · rw [if_neg k]; right; right; right; right; right; rfl
  rw [if_neg c1]
  by_cases c2 : tC B n q = 34
  · rw [if_pos c2]
    by_cases k : letE B n (tS B n q + 1) - (tS B n q + 1) ≤ 6 ∧ byt B n (letE B n (tS B n q + 1)) = 34
    · rw [if_pos k]; right; right; right; left; rfl
    · rw [if_neg k]; right; right; right; right; right; rfl
  rw [if_neg c2]
  by_cases c3 : tC B n q = 45 ∧ byt B n (tS B n q + 1) = 62
  · rw [if_pos c3]; right; right; right; right; left; exact ⟨rfl, Or.inr rfl⟩
  rw [if_neg c3]
  by_cases c4 : sgn (tC B n q)
  · rw [if_pos c4]; right; right; right; right; left; exact ⟨rfl, Or.inl c4⟩
  · rw [if_neg c4]; right; right; right; right; right; rfl
theorem chX_1 {o v : Int} (h : o = 0 ∨ o = 1 ∨ o = 2 ∨ o = 3 ∨ (o = 4 ∧ (sgn v ∨ v = 256)) ∨ o = 5) : (o = 1 ↔ chX o v = 110) ∧ (o = 2 ↔ chX o v = 48) ∧ (o = 3 ↔ chX o v = 119) ∧ (o = 0 ↔ chX o v = 36) ∧ (o = 5 ↔ chX o v = 120) ∧ (∀ a, sgn a → (chX o v = a ↔ o = 4 ∧ v = a)) ∧ (chX o v = 62 ↔ o = 4 ∧ v = 256) := by
  have fin : ∀ (o x v : Int), (sgn v ∨ v = 256 ∨ o ≠ 4) → ((o = 0 ∧ x = 36) ∨ (o = 1 ∧ x = 110) ∨ (o = 2 ∧ x = 48) ∨ (o = 3 ∧ x = 119) ∨ (o = 4 ∧ x = 62 ∧ v = 256) ∨ (o = 4 ∧ x = v ∧ v ≠ 256 ∧ sgn v) ∨ (o = 5 ∧ x = 120)) → (o = 1 ↔ x = 110) ∧ (o = 2 ↔ x = 48) ∧ (o = 3 ↔ x = 119) ∧ (o = 0 ↔ x = 36) ∧ (o = 5 ↔ x = 120) ∧ (∀ a, sgn a → (x = a ↔ o = 4 ∧ v = a)) ∧ (x = 62 ↔ o = 4 ∧ v = 256) := by
    intro o x v hv k
    unfold sgn at *
    exact ⟨by omega, by omega, by omega, by omega, by omega, fun a ha => by omega, by omega⟩
  rcases h with rfl | rfl | rfl | rfl | ⟨rfl, h⟩ | rfl
  · exact fin 0 (chX 0 v) v (by omega) (Or.inl ⟨rfl, rfl⟩)
  · exact fin 1 (chX 1 v) v (by omega) (Or.inr (Or.inl ⟨rfl, rfl⟩))
  · exact fin 2 (chX 2 v) v (by omega) (Or.inr (Or.inr (Or.inl ⟨rfl, rfl⟩)))
  · exact fin 3 (chX 3 v) v (by omega) (Or.inr (Or.inr (Or.inr (Or.inl ⟨rfl, rfl⟩))))
  · have e : chX 4 v = if v = 256 then 62 else v := rfl
    by_cases q : v = 256
    · rw [if_pos q] at e
      exact fin 4 (chX 4 v) v (by omega) (Or.inr (Or.inr (Or.inr (Or.inr (Or.inl ⟨rfl, e, q⟩)))))
    · rw [if_neg q] at e
      exact fin 4 (chX 4 v) v (Or.inl (h.resolve_right q)) (Or.inr (Or.inr (Or.inr (Or.inr (Or.inr (Or.inl ⟨rfl, e, q, h.resolve_right q⟩))))))
  · exact fin 5 (chX 5 v) v (by omega) (Or.inr (Or.inr (Or.inr (Or.inr (Or.inr (Or.inr ⟨rfl, rfl⟩))))))
/-- not broken, the token from q on at hand -/
def NB (B : Int → Int) (n q : Int) (h : AH) : Prop := h 441 6 = 0 ∧ XTok B n q h ∧ 0 ≤ q ∧ q ≤ n
/-- the reader's state: a fault at a place (told, or to be met), or on its way -/
def Sx (B : Int → Int) (n : Int) (r : Int ⊕ Int) (h : AH) : Prop := (∃ z, r = .inl z ∧ h 441 6 = 1 ∧ h 441 7 = z) ∨ (∃ q, NB B n q h ∧ ((r = .inl (tS B n q) ∧ tO B n q = 5) ∨ (r = .inr q ∧ tO B n q ≠ 5)))
def nx (B : Int → Int) (n q : Int) : Int ⊕ Int := if tO B n (tE B n q) = 5 then .inl (tS B n (tE B n q)) else .inr (tE B n q)
def plc (B : Int → Int) (n : Int) (r : Int ⊕ Int) : Int := match r with | .inl z => z | .inr q => tS B n q
theorem Sx_br {B : Int → Int} {n : Int} {r : Int ⊕ Int} {h : AH} (s : Sx B n r h) (b : ¬ h 441 6 = 0) : h 441 6 = 1 ∧ r = .inl (h 441 7) := by
  rcases s with ⟨z, rfl, h1, h2⟩ | ⟨q, hq, _⟩
  · exact ⟨h1, by rw [h2]⟩
  · exact absurd hq.1 b
theorem Sx_nb {B : Int → Int} {n : Int} {r : Int ⊕ Int} {h : AH} (s : Sx B n r h) (b : h 441 6 = 0) : ∃ q, NB B n q h ∧ ((r = .inl (tS B n q) ∧ tO B n q = 5) ∨ (r = .inr q ∧ tO B n q ≠ 5)) := by
  rcases s with ⟨z, rfl, h1, h2⟩ | hq
  · omega
  · exact hq
theorem Sx_pl {B : Int → Int} {n : Int} {r : Int ⊕ Int} {h : AH} (s : Sx B n r h) : (h 441 6 = 1 ∧ h 441 7 = plc B n r) ∨ (h 441 6 = 0 ∧ h 441 3 = plc B n r) := by
  rcases s with ⟨z, rfl, h1, h2⟩ | ⟨q, hq, ⟨rfl, _⟩ | ⟨rfl, _⟩⟩
  · exact Or.inl ⟨h1, h2⟩
  · exact Or.inr ⟨hq.1, hq.2.1.1⟩
  · exact Or.inr ⟨hq.1, hq.2.1.1⟩
theorem XTok_fr {B : Int → Int} {n q : Int} {h h' : AH} (t : XTok B n q h) (f : ∀ s, 2 ≤ s → s ≤ 5 → h' 441 s = h 441 s) : XTok B n q h' := by
  unfold XTok at *
  rw [f 3 (by decide) (by decide), f 2 (by decide) (by decide), f 4 (by decide) (by decide), f 5 (by decide) (by decide)]
  exact t
theorem NB_fr {B : Int → Int} {n q : Int} {h h' : AH} (t : NB B n q h) (f : ∀ s, 2 ≤ s → s ≤ 6 → h' 441 s = h 441 s) : NB B n q h' := by
  obtain ⟨a, b, c, d⟩ := t
  exact ⟨by rw [f 6 (by decide) (by decide)]; exact a, XTok_fr b (fun s s0 s1 => f s s0 (by omega)), c, d⟩
theorem Sx_fr {B : Int → Int} {n : Int} {r : Int ⊕ Int} {h h' : AH} (s : Sx B n r h) (f : ∀ s, 2 ≤ s → s ≤ 7 → h' 441 s = h 441 s) : Sx B n r h' := by
  rcases s with ⟨z, rfl, h1, h2⟩ | ⟨q, hq, c⟩
  · exact Or.inl ⟨z, rfl, by rw [f 6 (by decide) (by decide)]; exact h1, by rw [f 7 (by decide) (by decide)]; exact h2⟩
  · exact Or.inr ⟨q, NB_fr hq (fun s s0 s1 => f s s0 (by omega)), c⟩
theorem Sx_l {B : Int → Int} {n z : Int} {h : AH} (h1 : h 441 6 = 1) (h2 : h 441 7 = z) : Sx B n (.inl z) h := Or.inl ⟨z, rfl, h1, h2⟩
theorem Sx_r {B : Int → Int} {n q : Int} {h : AH} (h1 : NB B n q h) (h2 : tO B n q ≠ 5) : Sx B n (.inr q) h := Or.inr ⟨q, h1, Or.inr ⟨rfl, h2⟩⟩
/-- ends of tokens -/
theorem tE_r {B : Int → Int} {n q : Int} (hB : ∀ i, 0 ≤ i → i < n → 0 ≤ B i ∧ B i < 256) (h0 : 0 ≤ q) (h1 : q ≤ n) (g : tO B n q ≠ 5) : q ≤ tS B n q ∧ tS B n q ≤ tE B n q ∧ tE B n q ≤ n ∧ (tO B n q ≠ 0 → tS B n q + 1 ≤ tE B n q) := by
  have s := tS_r (B := B) h1
  have lt : 0 ≤ tC B n q → tS B n q < n := fun z => byt_lt (B := B) (by unfold tC at z; omega)
  rcases tK_cases B n q (fun i i0 i1 => (hB i i0 i1).1) h0 with c | c | c | c | c | c | c
  · unfold tE tO; rw [c.2.2]; exact ⟨s.1, Int.le_refl _, s.2, fun z => absurd rfl z⟩
  · have l := letE_1 (B := B) (n := n) (q := tS B n q) c.1
    have l2 := letE_r B n (tS B n q)
    unfold tE tO; rw [c.2.2]; exact ⟨s.1, by show _ ≤ letE B n (tS B n q); omega, by show letE B n (tS B n q) ≤ n; omega, fun _ => l⟩
  · have l := digE_1 (B := B) (n := n) (q := tS B n q) c.2.1
    have l2 := digE_r B n (tS B n q)
    unfold tE tO; rw [c.2.2.2.2]; exact ⟨s.1, by show _ ≤ digE B n (tS B n q); omega, by show digE B n (tS B n q) ≤ n; omega, fun _ => l⟩
  · have l2 := letE_r B n (tS B n q + 1)
    have l3 := byt_lt (B := B) (n := n) (i := letE B n (tS B n q + 1)) (by rw [c.2.2.1]; decide)
    unfold tE tO; rw [c.2.2.2]; exact ⟨s.1, by show _ ≤ letE B n (tS B n q + 1) + 1; omega, by show letE B n (tS B n q + 1) + 1 ≤ n; omega, fun _ => by show _ ≤ letE B n (tS B n q + 1) + 1; omega⟩
  · have l3 := byt_lt (B := B) (n := n) (i := tS B n q + 1) (by rw [c.2.1]; decide)
    unfold tE tO; rw [c.2.2]; exact ⟨s.1, by show _ ≤ tS B n q + 2; omega, by show tS B n q + 2 ≤ n; omega, fun _ => by show _ ≤ tS B n q + 2; omega⟩
  · have l3 := lt (by have := c.1; unfold sgn at this; omega)
    unfold tE tO; rw [c.2]; exact ⟨s.1, by show _ ≤ tS B n q + 1; omega, by show tS B n q + 1 ≤ n; omega, fun _ => Int.le_refl _⟩
  · exact absurd c.2.1 g
theorem vX13_nextS {B : Int → Int} {n A q : Int} {h : AH} (t : TX B n A h) (hB : ∀ i, 0 ≤ i → i < n → 0 ≤ B i ∧ B i < 256) (s : NB B n q h) (g : tO B n q ≠ 5) : OK (gX13_next h) (fun h' => Sx B n (nx B n q) h' ∧ ∀ a s, ¬ (a = 441 ∧ 2 ≤ s ∧ s ≤ 5) → h' a s = h a s) := by
  obtain ⟨s1, s2, s3, s4⟩ := s
  have e := tE_r hB s3 s4 g
  have t3 := t.2.2.2.1
  refine OK_mono (vX13_next (B := B) (n := n) (A := A) (q := tE B n q) t ⟨(s2.2.2.1 g).symm, by omega, by omega⟩ hB) (fun h' k => ⟨?_, k.2⟩)
  have nb : NB B n (tE B n q) h' := ⟨by rw [k.2 _ _ (by omega)]; exact s1, k.1, by omega, by omega⟩
  unfold nx
  by_cases c : tO B n (tE B n q) = 5
  · rw [if_pos c]; exact Or.inr ⟨_, nb, Or.inl ⟨rfl, c⟩⟩
  · rw [if_neg c]; exact Sx_r nb c
theorem vX13_no {h : AH} {B : Int → Int} {n : Int} {r : Int ⊕ Int} (s : Sx B n r h) : OK (gX13_no h) (fun h' => (h' 441 6 = 1 ∧ h' 441 7 = plc B n r) ∧ (∀ a s, ¬ (a = 441 ∧ (s = 6 ∨ s = 7)) → h' a s = h a s)) := by
  have S := Sx_pl s
  unfold gX13_no
  refine OK_if (fun c1 => ?_) (fun c1 => ?_)
  · skip
    try simp (disch := omega) only [jst_eq, jst_ne, jst_ni, jI_i, jcmp_lt, jcmp_gt, w32_id, jcpy_out, Sum.elim_inl, Sum.elim_inr, jt2, jt3, jt4, jt5, jt6, jt7, jt8] at c1
    refine OK_jl ?_
    unfold gX13_no_j15
    refine OK_jl ?_
    refine OK_some ?_
    try dsimp only [Sum.elim_inl, Sum.elim_inr, jt2, jt3, jt4, jt5, jt6, jt7, jt8]
    try dsimp only [Sum.elim_inl, Sum.elim_inr, jt2, jt3, jt4, jt5, jt6, jt7, jt8]
    refine ⟨?_, ?_⟩
    · (refine ⟨(by (try simp (disch := omega) only [jst_eq, jst_ne, jst_ni, jI_i, jcmp_lt, jcmp_gt, w32_id, jcpy_out, Sum.elim_inl, Sum.elim_inr, jt2, jt3, jt4, jt5, jt6, jt7, jt8])), ?_⟩; (try simp (disch := omega) only [jst_eq, jst_ne, jst_ni, jI_i, jcmp_lt, jcmp_gt, w32_id, jcpy_out, Sum.elim_inl, Sum.elim_inr, jt2, jt3, jt4, jt5, jt6, jt7, jt8]); have c := c1; rcases S with q | q; { omega }; { exact q.2 }) -- o1 e1.1
    · (first | assumption | omega | ((try dsimp only [jt2, jt3, jt4]); first | omega | (simp (disch := omega) only [jst_eq, jst_ne, jst_ni, jst_o, jI_i, jcpy_out, w32_id, jdiv_nn, jshr_k, jand_255] <;> first | done | omega | assumption)) | (intros; simp (disch := omega) only [jst_eq, jst_ne, jst_ni, jst_o, jI_i, jcpy_out, w32_id, jdiv_nn, *] <;> first | done | omega) | (intros; simp (disch := omega) only [jst_eq, jst_ne, jst_ni, jst_o, jI_i, jcpy_out, w32_id, jdiv_nn] at * <;> first | done | omega | assumption) | (intros; first | rfl | (exfalso; omega) | ((repeat' apply And.intro) <;> first | assumption | rfl | omega | trivial))) -- o2 e1.2
  · skip
    try simp (disch := omega) only [jst_eq, jst_ne, jst_ni, jI_i, jcmp_lt, jcmp_gt, w32_id, jcpy_out, Sum.elim_inl, Sum.elim_inr, jt2, jt3, jt4, jt5, jt6, jt7, jt8] at c1
    unfold gX13_no_j15
    refine OK_jl ?_
    refine OK_some ?_
    try dsimp only [Sum.elim_inl, Sum.elim_inr, jt2, jt3, jt4, jt5, jt6, jt7, jt8]
    try dsimp only [Sum.elim_inl, Sum.elim_inr, jt2, jt3, jt4, jt5, jt6, jt7, jt8]
    refine ⟨?_, ?_⟩
    · (refine ⟨(by (try simp (disch := omega) only [jst_eq, jst_ne, jst_ni, jI_i, jcmp_lt, jcmp_gt, w32_id, jcpy_out, Sum.elim_inl, Sum.elim_inr, jt2, jt3, jt4, jt5, jt6, jt7, jt8])), ?_⟩; (try simp (disch := omega) only [jst_eq, jst_ne, jst_ni, jI_i, jcmp_lt, jcmp_gt, w32_id, jcpy_out, Sum.elim_inl, Sum.elim_inr, jt2, jt3, jt4, jt5, jt6, jt7, jt8]); have c := c1; rcases S with q | q; { exact q.2 }; { omega }) -- o3 e2.1
    · (first | assumption | omega | ((try dsimp only [jt2, jt3, jt4]); first | omega | (simp (disch := omega) only [jst_eq, jst_ne, jst_ni, jst_o, jI_i, jcpy_out, w32_id, jdiv_nn, jshr_k, jand_255] <;> first | done | omega | assumption)) | (intros; simp (disch := omega) only [jst_eq, jst_ne, jst_ni, jst_o, jI_i, jcpy_out, w32_id, jdiv_nn, *] <;> first | done | omega) | (intros; simp (disch := omega) only [jst_eq, jst_ne, jst_ni, jst_o, jI_i, jcpy_out, w32_id, jdiv_nn] at * <;> first | done | omega | assumption) | (intros; first | rfl | (exfalso; omega) | ((repeat' apply And.intro) <;> first | assumption | rfl | omega | trivial))) -- o4 e2.2
def FK (h : AH) : Int := if h 441 8 ≤ 0 then 1000000 else h 441 9 * 8 + h 441 8
theorem vX13_err (a1 : Int) (a2 : Int) {h : AH} (f : 0 ≤ h 441 8 ∧ h 441 8 ≤ 6) (w : 1 ≤ a1 ∧ a1 ≤ 6 ∧ 0 ≤ a2 ∧ a2 ≤ 2001) : OK (gX13_err a1 a2 h) (fun h' => (0 ≤ h' 441 8 ∧ h' 441 8 ≤ 6) ∧ (FK h' = min (FK h) (a2 * 8 + a1)) ∧ (∀ a s, ¬ (a = 441 ∧ (s = 8 ∨ s = 9)) → h' a s = h a s)) := by
  unfold gX13_err
  refine OK_if (fun c1 => ?_) (fun c1 => ?_)
  · skip
    try simp (disch := omega) only [jst_eq, jst_ne, jst_ni, jI_i, jcmp_lt, jcmp_gt, w32_id, jcpy_out, Sum.elim_inl, Sum.elim_inr, jt2, jt3, jt4, jt5, jt6, jt7, jt8] at c1
    unfold gX13_err_j32
    refine OK_jl ?_
    refine OK_jl ?_
    refine OK_some ?_
    try dsimp only [Sum.elim_inl, Sum.elim_inr, jt2, jt3, jt4, jt5, jt6, jt7, jt8]
    try dsimp only [Sum.elim_inl, Sum.elim_inr, jt2, jt3, jt4, jt5, jt6, jt7, jt8]
    refine ⟨?_, ?_, ?_⟩
    · (first | assumption | omega | ((try dsimp only [jt2, jt3, jt4]); first | omega | (simp (disch := omega) only [jst_eq, jst_ne, jst_ni, jst_o, jI_i, jcpy_out, w32_id, jdiv_nn, jshr_k, jand_255] <;> first | done | omega | assumption)) | (intros; simp (disch := omega) only [jst_eq, jst_ne, jst_ni, jst_o, jI_i, jcpy_out, w32_id, jdiv_nn, *] <;> first | done | omega) | (intros; simp (disch := omega) only [jst_eq, jst_ne, jst_ni, jst_o, jI_i, jcpy_out, w32_id, jdiv_nn] at * <;> first | done | omega | assumption) | (intros; first | rfl | (exfalso; omega) | ((repeat' apply And.intro) <;> first | assumption | rfl | omega | trivial))) -- o1 e1.1
    · (unfold FK; (try simp (disch := omega) only [jst_eq, jst_ne, jst_ni, jI_i, jcmp_lt, jcmp_gt, w32_id, jcpy_out, Sum.elim_inl, Sum.elim_inr, jt2, jt3, jt4, jt5, jt6, jt7, jt8]); rw [if_pos c1, if_neg (by omega)]; omega) -- o2 e1.2
    · (first | assumption | omega | ((try dsimp only [jt2, jt3, jt4]); first | omega | (simp (disch := omega) only [jst_eq, jst_ne, jst_ni, jst_o, jI_i, jcpy_out, w32_id, jdiv_nn, jshr_k, jand_255] <;> first | done | omega | assumption)) | (intros; simp (disch := omega) only [jst_eq, jst_ne, jst_ni, jst_o, jI_i, jcpy_out, w32_id, jdiv_nn, *] <;> first | done | omega) | (intros; simp (disch := omega) only [jst_eq, jst_ne, jst_ni, jst_o, jI_i, jcpy_out, w32_id, jdiv_nn] at * <;> first | done | omega | assumption) | (intros; first | rfl | (exfalso; omega) | ((repeat' apply And.intro) <;> first | assumption | rfl | omega | trivial))) -- o3 e1.3
  · skip
    try simp (disch := omega) only [jst_eq, jst_ne, jst_ni, jI_i, jcmp_lt, jcmp_gt, w32_id, jcpy_out, Sum.elim_inl, Sum.elim_inr, jt2, jt3, jt4, jt5, jt6, jt7, jt8] at c1
    refine OK_if (fun c2 => ?_) (fun c2 => ?_)
    · skip
      try simp (disch := omega) only [jst_eq, jst_ne, jst_ni, jI_i, jcmp_lt, jcmp_gt, w32_id, jcpy_out, Sum.elim_inl, Sum.elim_inr, jt2, jt3, jt4, jt5, jt6, jt7, jt8] at c2
      refine OK_some ?_
      try dsimp only [Sum.elim_inl, Sum.elim_inr, jt2, jt3, jt4, jt5, jt6, jt7, jt8]
      try dsimp only [Sum.elim_inl, Sum.elim_inr, jt2, jt3, jt4, jt5, jt6, jt7, jt8]
      refine ⟨?_, ?_, ?_⟩
      · (first | assumption | omega | ((try dsimp only [jt2, jt3, jt4]); first | omega | (simp (disch := omega) only [jst_eq, jst_ne, jst_ni, jst_o, jI_i, jcpy_out, w32_id, jdiv_nn, jshr_k, jand_255] <;> first | done | omega | assumption)) | (intros; simp (disch := omega) only [jst_eq, jst_ne, jst_ni, jst_o, jI_i, jcpy_out, w32_id, jdiv_nn, *] <;> first | done | omega) | (intros; simp (disch := omega) only [jst_eq, jst_ne, jst_ni, jst_o, jI_i, jcpy_out, w32_id, jdiv_nn] at * <;> first | done | omega | assumption) | (intros; first | rfl | (exfalso; omega) | ((repeat' apply And.intro) <;> first | assumption | rfl | omega | trivial))) -- o4 e2.1
      · (unfold FK; rw [if_neg c1]; omega) -- o5 e2.2
      · (first | assumption | omega | ((try dsimp only [jt2, jt3, jt4]); first | omega | (simp (disch := omega) only [jst_eq, jst_ne, jst_ni, jst_o, jI_i, jcpy_out, w32_id, jdiv_nn, jshr_k, jand_255] <;> first | done | omega | assumption)) | (intros; simp (disch := omega) only [jst_eq, jst_ne, jst_ni, jst_o, jI_i, jcpy_out, w32_id, jdiv_nn, *] <;> first | done | omega) | (intros; simp (disch := omega) only [jst_eq, jst_ne, jst_ni, jst_o, jI_i, jcpy_out, w32_id, jdiv_nn] at * <;> first | done | omega | assumption) | (intros; first | rfl | (exfalso; omega) | ((repeat' apply And.intro) <;> first | assumption | rfl | omega | trivial))) -- o6 e2.3
    · skip
      try simp (disch := omega) only [jst_eq, jst_ne, jst_ni, jI_i, jcmp_lt, jcmp_gt, w32_id, jcpy_out, Sum.elim_inl, Sum.elim_inr, jt2, jt3, jt4, jt5, jt6, jt7, jt8] at c2
      refine OK_if (fun c3 => ?_) (fun c3 => ?_)
      · skip
        try simp (disch := omega) only [jst_eq, jst_ne, jst_ni, jI_i, jcmp_lt, jcmp_gt, w32_id, jcpy_out, Sum.elim_inl, Sum.elim_inr, jt2, jt3, jt4, jt5, jt6, jt7, jt8] at c3
        refine OK_if (fun c4 => ?_) (fun c4 => ?_)
        · skip
          try simp (disch := omega) only [jst_eq, jst_ne, jst_ni, jI_i, jcmp_lt, jcmp_gt, w32_id, jcpy_out, Sum.elim_inl, Sum.elim_inr, jt2, jt3, jt4, jt5, jt6, jt7, jt8] at c4
          unfold gX13_err_j32
          refine OK_jl ?_
          refine OK_jl ?_
          refine OK_some ?_
          try dsimp only [Sum.elim_inl, Sum.elim_inr, jt2, jt3, jt4, jt5, jt6, jt7, jt8]
          try dsimp only [Sum.elim_inl, Sum.elim_inr, jt2, jt3, jt4, jt5, jt6, jt7, jt8]
          refine ⟨?_, ?_, ?_⟩
          · (first | assumption | omega | ((try dsimp only [jt2, jt3, jt4]); first | omega | (simp (disch := omega) only [jst_eq, jst_ne, jst_ni, jst_o, jI_i, jcpy_out, w32_id, jdiv_nn, jshr_k, jand_255] <;> first | done | omega | assumption)) | (intros; simp (disch := omega) only [jst_eq, jst_ne, jst_ni, jst_o, jI_i, jcpy_out, w32_id, jdiv_nn, *] <;> first | done | omega) | (intros; simp (disch := omega) only [jst_eq, jst_ne, jst_ni, jst_o, jI_i, jcpy_out, w32_id, jdiv_nn] at * <;> first | done | omega | assumption) | (intros; first | rfl | (exfalso; omega) | ((repeat' apply And.intro) <;> first | assumption | rfl | omega | trivial))) -- o7 e3.1
          · (unfold FK; (try simp (disch := omega) only [jst_eq, jst_ne, jst_ni, jI_i, jcmp_lt, jcmp_gt, w32_id, jcpy_out, Sum.elim_inl, Sum.elim_inr, jt2, jt3, jt4, jt5, jt6, jt7, jt8]); rw [if_neg c1, if_neg (by omega)]; omega) -- o8 e3.2
          · (first | assumption | omega | ((try dsimp only [jt2, jt3, jt4]); first | omega | (simp (disch := omega) only [jst_eq, jst_ne, jst_ni, jst_o, jI_i, jcpy_out, w32_id, jdiv_nn, jshr_k, jand_255] <;> first | done | omega | assumption)) | (intros; simp (disch := omega) only [jst_eq, jst_ne, jst_ni, jst_o, jI_i, jcpy_out, w32_id, jdiv_nn, *] <;> first | done | omega) | (intros; simp (disch := omega) only [jst_eq, jst_ne, jst_ni, jst_o, jI_i, jcpy_out, w32_id, jdiv_nn] at * <;> first | done | omega | assumption) | (intros; first | rfl | (exfalso; omega) | ((repeat' apply And.intro) <;> first | assumption | rfl | omega | trivial))) -- o9 e3.3
        · skip
          try simp (disch := omega) only [jst_eq, jst_ne, jst_ni, jI_i, jcmp_lt, jcmp_gt, w32_id, jcpy_out, Sum.elim_inl, Sum.elim_inr, jt2, jt3, jt4, jt5, jt6, jt7, jt8] at c4
          refine OK_some ?_
          try dsimp only [Sum.elim_inl, Sum.elim_inr, jt2, jt3, jt4, jt5, jt6, jt7, jt8]
          try dsimp only [Sum.elim_inl, Sum.elim_inr, jt2, jt3, jt4, jt5, jt6, jt7, jt8]
          refine ⟨?_, ?_, ?_⟩
          · (first | assumption | omega | ((try dsimp only [jt2, jt3, jt4]); first | omega | (simp (disch := omega) only [jst_eq, jst_ne, jst_ni, jst_o, jI_i, jcpy_out, w32_id, jdiv_nn, jshr_k, jand_255] <;> first | done | omega | assumption)) | (intros; simp (disch := omega) only [jst_eq, jst_ne, jst_ni, jst_o, jI_i, jcpy_out, w32_id, jdiv_nn, *] <;> first | done | omega) | (intros; simp (disch := omega) only [jst_eq, jst_ne, jst_ni, jst_o, jI_i, jcpy_out, w32_id, jdiv_nn] at * <;> first | done | omega | assumption) | (intros; first | rfl | (exfalso; omega) | ((repeat' apply And.intro) <;> first | assumption | rfl | omega | trivial))) -- o10 e4.1
          · (unfold FK; rw [if_neg c1]; omega) -- o11 e4.2
          · (first | assumption | omega | ((try dsimp only [jt2, jt3, jt4]); first | omega | (simp (disch := omega) only [jst_eq, jst_ne, jst_ni, jst_o, jI_i, jcpy_out, w32_id, jdiv_nn, jshr_k, jand_255] <;> first | done | omega | assumption)) | (intros; simp (disch := omega) only [jst_eq, jst_ne, jst_ni, jst_o, jI_i, jcpy_out, w32_id, jdiv_nn, *] <;> first | done | omega) | (intros; simp (disch := omega) only [jst_eq, jst_ne, jst_ni, jst_o, jI_i, jcpy_out, w32_id, jdiv_nn] at * <;> first | done | omega | assumption) | (intros; first | rfl | (exfalso; omega) | ((repeat' apply And.intro) <;> first | assumption | rfl | omega | trivial))) -- o12 e4.3
      · skip
        try simp (disch := omega) only [jst_eq, jst_ne, jst_ni, jI_i, jcmp_lt, jcmp_gt, w32_id, jcpy_out, Sum.elim_inl, Sum.elim_inr, jt2, jt3, jt4, jt5, jt6, jt7, jt8] at c3
        unfold gX13_err_j32
        refine OK_jl ?_
        refine OK_jl ?_
        refine OK_some ?_
        try dsimp only [Sum.elim_inl, Sum.elim_inr, jt2, jt3, jt4, jt5, jt6, jt7, jt8]
        try dsimp only [Sum.elim_inl, Sum.elim_inr, jt2, jt3, jt4, jt5, jt6, jt7, jt8]
        refine ⟨?_, ?_, ?_⟩
        · (first | assumption | omega | ((try dsimp only [jt2, jt3, jt4]); first | omega | (simp (disch := omega) only [jst_eq, jst_ne, jst_ni, jst_o, jI_i, jcpy_out, w32_id, jdiv_nn, jshr_k, jand_255] <;> first | done | omega | assumption)) | (intros; simp (disch := omega) only [jst_eq, jst_ne, jst_ni, jst_o, jI_i, jcpy_out, w32_id, jdiv_nn, *] <;> first | done | omega) | (intros; simp (disch := omega) only [jst_eq, jst_ne, jst_ni, jst_o, jI_i, jcpy_out, w32_id, jdiv_nn] at * <;> first | done | omega | assumption) | (intros; first | rfl | (exfalso; omega) | ((repeat' apply And.intro) <;> first | assumption | rfl | omega | trivial))) -- o13 e5.1
        · (unfold FK; (try simp (disch := omega) only [jst_eq, jst_ne, jst_ni, jI_i, jcmp_lt, jcmp_gt, w32_id, jcpy_out, Sum.elim_inl, Sum.elim_inr, jt2, jt3, jt4, jt5, jt6, jt7, jt8]); rw [if_neg c1, if_neg (by omega)]; omega) -- o14 e5.2
        · (first | assumption | omega | ((try dsimp only [jt2, jt3, jt4]); first | omega | (simp (disch := omega) only [jst_eq, jst_ne, jst_ni, jst_o, jI_i, jcpy_out, w32_id, jdiv_nn, jshr_k, jand_255] <;> first | done | omega | assumption)) | (intros; simp (disch := omega) only [jst_eq, jst_ne, jst_ni, jst_o, jI_i, jcpy_out, w32_id, jdiv_nn, *] <;> first | done | omega) | (intros; simp (disch := omega) only [jst_eq, jst_ne, jst_ni, jst_o, jI_i, jcpy_out, w32_id, jdiv_nn] at * <;> first | done | omega | assumption) | (intros; first | rfl | (exfalso; omega) | ((repeat' apply And.intro) <;> first | assumption | rfl | omega | trivial))) -- o15 e5.3
def Od (h : AH) : Prop := ∃ S : Nat → Nat, ∀ a i, 0 < a → a < 200 → h a i = oldV S a i
theorem Od_fr {h h' : AH} (o : Od h) (f : ∀ a i, 0 < a → a < 200 → h' a i = h a i) : Od h' := by
  obtain ⟨S, q⟩ := o
  exact ⟨S, fun a i a0 a1 => by rw [f a i a0 a1]; exact q a i a0 a1⟩
theorem oldV_s {S : Nat → Nat} {a i : Int} (a0 : 10 ≤ a) (a1 : a < 110) (e : a % 2 = 0) : oldV S a i = if i = -2 then 1 else if i = -1 then 4 else if i = 0 then a + 1 else 0 := by
  unfold oldV; rw [if_neg (by omega), if_neg (by omega), if_pos (by omega), if_pos e]
theorem oldV_b {S : Nat → Nat} {a i : Int} (a0 : 10 ≤ a) (a1 : a < 110) (e : a % 2 = 1) : oldV S a i = if i = -2 then 103 else if i = -1 then (((strB a).length : Nat) : Int) else if 0 ≤ i then (strB a).getD i.toNat 0 else 0 := by
  unfold oldV; rw [if_neg (by omega), if_neg (by omega), if_pos (by omega), if_neg (by omega)]
theorem old_str {h : AH} (o : Od h) {a : Int} (a0 : 10 ≤ a) (a1 : a < 109) (e : a % 2 = 0) (b : ∀ k : Nat, k < (strB (a + 1)).length → 0 ≤ (strB (a + 1)).getD k 0 ∧ (strB (a + 1)).getD k 0 < 128) (l : (strB (a + 1)).length ≤ 100000) : strI h a (fun k => (strB (a + 1)).getD k.toNat 0) ((strB (a + 1)).length : Nat) := by
  obtain ⟨S, q⟩ := o
  have h0 : h a 0 = a + 1 := by rw [q a 0 (by omega) (by omega), oldV_s a0 (by omega) e]; rfl
  unfold strI
  rw [h0, q a (-2) (by omega) (by omega), q a 1 (by omega) (by omega), q (a + 1) (-2) (by omega) (by omega), q (a + 1) (-1) (by omega) (by omega), oldV_s a0 (by omega) e, oldV_s a0 (by omega) e, oldV_b (by omega) (by omega) (by omega), oldV_b (by omega) (by omega) (by omega)]
  refine ⟨rfl, rfl, rfl, rfl, by omega, by omega, fun k k0 k1 => ?_⟩
  rw [q (a + 1) k (by omega) (by omega), oldV_b (by omega) (by omega) (by omega), if_neg (by omega), if_neg (by omega), if_pos k0]
  exact ⟨rfl, b k.toNat (by omega)⟩
/-- a constant's name -/
theorem old_nm {h : AH} (o : Od h) {a w : Int} (l : List Int) (e : strB (a + 1) = l) (a0 : 10 ≤ a) (a1 : a < 109) (ev : a % 2 = 0) (b : ∀ k : Nat, k < l.length → 97 ≤ l.getD k 0 ∧ l.getD k 0 ≤ 122) (ll : l.length ≤ 8) (hw : w = cod (fun k => l.getD k.toNat 0) 0 l.length) : nmS h a w := by
  have s := old_str o a0 a1 ev (by rw [e]; intro k k1; have := b k k1; omega) (by rw [e]; omega)
  rw [e] at s
  exact ⟨_, _, s, by omega, fun i i0 i1 => b i.toNat (by omega), hw⟩
theorem nm_n {h : AH} (o : Od h) : nmS h 32 14 := old_nm o [110] rfl (by decide) (by decide) (by decide) (by decide) (by decide) (by decide)
theorem nm_t {h : AH} (o : Od h) : nmS h 34 20 := old_nm o [116] rfl (by decide) (by decide) (by decide) (by decide) (by decide) (by decide)
theorem nm_s {h : AH} (o : Od h) : nmS h 36 19 := old_nm o [115] rfl (by decide) (by decide) (by decide) (by decide) (by decide) (by decide)
theorem nm_true {h : AH} (o : Od h) : nmS h 22 407354 := old_nm o [116, 114, 117, 101] rfl (by decide) (by decide) (by decide) (by decide) (by decide) (by decide)
theorem nm_false {h : AH} (o : Od h) : nmS h 24 3217595 := old_nm o [102, 97, 108, 115, 101] rfl (by decide) (by decide) (by decide) (by decide) (by decide) (by decide)
theorem nm_error {h : AH} (o : Od h) : nmS h 26 3025044 := old_nm o [101, 114, 114, 111, 114] rfl (by decide) (by decide) (by decide) (by decide) (by decide) (by decide)
theorem nm_f {h : AH} (o : Od h) : nmS h 14 6 := old_nm o [102] rfl (by decide) (by decide) (by decide) (by decide) (by decide) (by decide)
theorem nm_a {h : AH} (o : Od h) : nmS h 16 1 := old_nm o [97] rfl (by decide) (by decide) (by decide) (by decide) (by decide) (by decide)
theorem nm_b {h : AH} (o : Od h) : nmS h 18 2 := old_nm o [98] rfl (by decide) (by decide) (by decide) (by decide) (by decide) (by decide)
theorem nm_c {h : AH} (o : Od h) : nmS h 20 3 := old_nm o [99] rfl (by decide) (by decide) (by decide) (by decide) (by decide) (by decide)

