/-! m: a node is weighed -/
theorem vX14_add (a1 : Int) (a2 : Int) (a3 : Int) (a5 : Int) (a6 : Int) {h : AH} {e : CE} {t : Int → Int} {N : Int} {w : Nat} (hc : h 454 109 = e.1 ∧ 0 ≤ e.1 ∧ e.1 ≤ 8) (hr : rwQ h e w) (sw : stU e w) (nd : NDT h e t N) (h1 : (0 ≤ a1 ∧ a1 ≤ 401) ∧ 1 ≤ a2 ∧ a2 ≤ 4) : OK (gX14_add a1 a2 a3 a5 a6 h) (fun h' => (∃ j, (0 ≤ j ∧ j < N ∧ t j = w) ∧ h' = jst (jst h (830 + a2) a1 (w64 (h (830 + a2) a1 + w64 (a3 * h (830 + (a2 - 1)) j)))) (836 + a2) a1 (min (h (836 + a2) a1) (w32 (a5 + h (836 + (a2 - 1)) j)))) ∨ (h' = h ∧ ∀ k, 0 ≤ k → k < N → t k ≠ w)) := by
  have N4 := nd.2.1
  unfold gX14_add
  refine OK_jb (vX14_at (e := e) (t := t) (N := N) (w := w) _ (by exact hc) (by (first | assumption | omega | ((try dsimp only [jt2, jt3, jt4]); first | omega | (simp (disch := omega) only [jst_eq, jst_ne, jst_ni, jst_o, jI_i, jcpy_out, w32_id, jdiv_nn, jshr_k, jand_255] <;> first | done | omega | assumption)) | (intros; simp (disch := omega) only [jst_eq, jst_ne, jst_ni, jst_o, jI_i, jcpy_out, w32_id, jdiv_nn, *] <;> first | done | omega) | (intros; simp (disch := omega) only [jst_eq, jst_ne, jst_ni, jst_o, jI_i, jcpy_out, w32_id, jdiv_nn] at * <;> first | done | omega | assumption) | (intros; first | rfl | (exfalso; omega) | ((repeat' apply And.intro) <;> first | assumption | rfl | omega | trivial)))) (by (first | assumption | omega | ((try dsimp only [jt2, jt3, jt4]); first | omega | (simp (disch := omega) only [jst_eq, jst_ne, jst_ni, jst_o, jI_i, jcpy_out, w32_id, jdiv_nn, jshr_k, jand_255] <;> first | done | omega | assumption)) | (intros; simp (disch := omega) only [jst_eq, jst_ne, jst_ni, jst_o, jI_i, jcpy_out, w32_id, jdiv_nn, *] <;> first | done | omega) | (intros; simp (disch := omega) only [jst_eq, jst_ne, jst_ni, jst_o, jI_i, jcpy_out, w32_id, jdiv_nn] at * <;> first | done | omega | assumption) | (intros; first | rfl | (exfalso; omega) | ((repeat' apply And.intro) <;> first | assumption | rfl | omega | trivial)))) (by (first | assumption | omega | ((try dsimp only [jt2, jt3, jt4]); first | omega | (simp (disch := omega) only [jst_eq, jst_ne, jst_ni, jst_o, jI_i, jcpy_out, w32_id, jdiv_nn, jshr_k, jand_255] <;> first | done | omega | assumption)) | (intros; simp (disch := omega) only [jst_eq, jst_ne, jst_ni, jst_o, jI_i, jcpy_out, w32_id, jdiv_nn, *] <;> first | done | omega) | (intros; simp (disch := omega) only [jst_eq, jst_ne, jst_ni, jst_o, jI_i, jcpy_out, w32_id, jdiv_nn] at * <;> first | done | omega | assumption) | (intros; first | rfl | (exfalso; omega) | ((repeat' apply And.intro) <;> first | assumption | rfl | omega | trivial))))) (fun v2 r1 => ?_)
  try dsimp only [Sum.elim_inl, Sum.elim_inr, jt2, jt3, jt4, jt5, jt6, jt7, jt8] at r1
  have at1 := r1
  clear r1
  try simp (disch := omega) only [jst_eq, jst_ne, jst_ni, jI_i, jcmp_lt, jcmp_gt, w32_id, jcpy_out, Sum.elim_inl, Sum.elim_inr, jt2, jt3, jt4, jt5, jt6, jt7, jt8] at at1
  have W1 : w32 (a2 - 1) = a2 - 1 := w32_id (by omega) (by omega)
  rw [W1]
  refine OK_if (fun c1 => ?_) (fun c1 => ?_)
  · skip
    try simp (disch := omega) only [jst_eq, jst_ne, jst_ni, jI_i, jcmp_lt, jcmp_gt, w32_id, jcpy_out, Sum.elim_inl, Sum.elim_inr, jt2, jt3, jt4, jt5, jt6, jt7, jt8] at c1
    refine OK_jg (by (first | assumption | omega | ((try dsimp only [jt2, jt3, jt4]); first | omega | (simp (disch := omega) only [jst_eq, jst_ne, jst_ni, jst_o, jI_i, jcpy_out, w32_id, jdiv_nn, jshr_k, jand_255] <;> first | done | omega | assumption)) | (intros; simp (disch := omega) only [jst_eq, jst_ne, jst_ni, jst_o, jI_i, jcpy_out, w32_id, jdiv_nn, *] <;> first | done | omega) | (intros; simp (disch := omega) only [jst_eq, jst_ne, jst_ni, jst_o, jI_i, jcpy_out, w32_id, jdiv_nn] at * <;> first | done | omega | assumption) | (intros; first | rfl | (exfalso; omega) | ((repeat' apply And.intro) <;> first | assumption | rfl | omega | trivial)))) ?_ -- o5
    refine OK_jg (by (first | assumption | omega | ((try dsimp only [jt2, jt3, jt4]); first | omega | (simp (disch := omega) only [jst_eq, jst_ne, jst_ni, jst_o, jI_i, jcpy_out, w32_id, jdiv_nn, jshr_k, jand_255] <;> first | done | omega | assumption)) | (intros; simp (disch := omega) only [jst_eq, jst_ne, jst_ni, jst_o, jI_i, jcpy_out, w32_id, jdiv_nn, *] <;> first | done | omega) | (intros; simp (disch := omega) only [jst_eq, jst_ne, jst_ni, jst_o, jI_i, jcpy_out, w32_id, jdiv_nn] at * <;> first | done | omega | assumption) | (intros; first | rfl | (exfalso; omega) | ((repeat' apply And.intro) <;> first | assumption | rfl | omega | trivial)))) ?_ -- o6
    refine OK_jg (by (first | assumption | omega | ((try dsimp only [jt2, jt3, jt4]); first | omega | (simp (disch := omega) only [jst_eq, jst_ne, jst_ni, jst_o, jI_i, jcpy_out, w32_id, jdiv_nn, jshr_k, jand_255] <;> first | done | omega | assumption)) | (intros; simp (disch := omega) only [jst_eq, jst_ne, jst_ni, jst_o, jI_i, jcpy_out, w32_id, jdiv_nn, *] <;> first | done | omega) | (intros; simp (disch := omega) only [jst_eq, jst_ne, jst_ni, jst_o, jI_i, jcpy_out, w32_id, jdiv_nn] at * <;> first | done | omega | assumption) | (intros; first | rfl | (exfalso; omega) | ((repeat' apply And.intro) <;> first | assumption | rfl | omega | trivial)))) ?_ -- o7
    refine OK_jg (by (first | assumption | omega | ((try dsimp only [jt2, jt3, jt4]); first | omega | (simp (disch := omega) only [jst_eq, jst_ne, jst_ni, jst_o, jI_i, jcpy_out, w32_id, jdiv_nn, jshr_k, jand_255] <;> first | done | omega | assumption)) | (intros; simp (disch := omega) only [jst_eq, jst_ne, jst_ni, jst_o, jI_i, jcpy_out, w32_id, jdiv_nn, *] <;> first | done | omega) | (intros; simp (disch := omega) only [jst_eq, jst_ne, jst_ni, jst_o, jI_i, jcpy_out, w32_id, jdiv_nn] at * <;> first | done | omega | assumption) | (intros; first | rfl | (exfalso; omega) | ((repeat' apply And.intro) <;> first | assumption | rfl | omega | trivial)))) ?_ -- o8
    refine OK_jl ?_
    refine OK_jl ?_
    refine OK_some ?_
    try dsimp only [Sum.elim_inl, Sum.elim_inr, jt2, jt3, jt4, jt5, jt6, jt7, jt8]
    (have z := at1.resolve_right (fun z => by omega); refine Or.inl ⟨v2, z, ?_⟩; have E1 : ∀ X, jst h (830 + a2) a1 X (836 + a2) a1 = h (836 + a2) a1 := (fun X => jst_ne (by omega)); have E2 : ∀ X, jst h (830 + a2) a1 X (836 + (a2 - 1)) v2 = h (836 + (a2 - 1)) v2 := (fun X => jst_ne (by omega)); rw [E1, E2]) -- o9 e1
  · skip
    try simp (disch := omega) only [jst_eq, jst_ne, jst_ni, jI_i, jcmp_lt, jcmp_gt, w32_id, jcpy_out, Sum.elim_inl, Sum.elim_inr, jt2, jt3, jt4, jt5, jt6, jt7, jt8] at c1
    refine OK_some ?_
    try dsimp only [Sum.elim_inl, Sum.elim_inr, jt2, jt3, jt4, jt5, jt6, jt7, jt8]
    exact Or.inr ⟨rfl, (at1.resolve_left (fun z => by omega)).2⟩ -- o10 e2
/-- rows that are right as far as they are asked -/
def wyM (c : Int → Int) (e : CE) (t d : Int → Int) (N : Int) (k : Nat) : Prop := ∀ s, 0 ≤ s → s < N → d s + k ≤ 4 → c s = cnP e k (t s)
def drM (c : Int → Int) (e : CE) (t d : Int → Int) (N : Int) (k : Nat) : Prop := ∀ s, 0 ≤ s → s < N → d s + k ≤ 4 → c s = chP e k (t s)
/-- a least value so far -/
def mnI (g : Int → Int) (all seen : Int × Int → Prop) (v : Int) : Prop := v ≤ 1000000 ∧ (∀ m, seen m → v ≤ m.1 + g m.2) ∧ (v = 1000000 ∨ ∃ m, all m ∧ v = m.1 + g m.2)
theorem mnI_s {g : Int → Int} {all seen seen' : Int × Int → Prop} {v : Int} {x : Int × Int} (h : mnI g all seen v) (ax : all x) (s : ∀ m, seen' m → seen m ∨ m = x) : mnI g all seen' (min v (x.1 + g x.2)) := by
  obtain ⟨h1, h2, h3⟩ := h
  refine ⟨by omega, fun m hm => ?_, ?_⟩
  · rcases s m hm with y | y
    · have := h2 m y; omega
    · rw [y]; omega
  · by_cases y : x.1 + g x.2 < v
    · exact Or.inr ⟨x, ax, by omega⟩
    · rcases h3 with h3 | ⟨m, m1, m2⟩
      · left; omega
      · exact Or.inr ⟨m, m1, by omega⟩
theorem mnI_w {g : Int → Int} {all seen seen' : Int × Int → Prop} {v : Int} (h : mnI g all seen v) (s : ∀ m, seen' m → seen m) : mnI g all seen' v := ⟨h.1, fun m hm => h.2.1 m (s m hm), h.2.2⟩

