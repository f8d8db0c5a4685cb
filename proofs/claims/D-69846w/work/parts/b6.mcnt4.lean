/-! m: the counts of all prices up to one -/
def f754 (h h' : AH) : Prop := ∀ a s, ¬ (a = 754 ∧ 0 ≤ s) → h' a s = h a s
theorem f754_R {h h' : AH} (f : f754 h h') : fR h h' := fun a s _ y2 _ => f a s y2
theorem vX14_leafFunction_l2 (i1 : Int) (a20 : Int) {h0 : AH} {E : EV} {Rf : Int → TR} {W : Int → Int → Int → VW} {K : AK} {tp : Int} (ak : akM h0 E Rf W K tp) (k : 0 ≤ i1 ∧ i1 < (kA K).1) (z : a20 = 0) : OK (gX14_leafFunction_l2 i1 a20 h0) (fun h' => (∀ p, 0 ≤ p → p < kP K → h' 754 p = lvA (kA K) i1 p) ∧ (f754 h0 h')) := by
  unfold gX14_leafFunction_l2
  refine OK_jit (I := (fun (s : Int × AH) => jt2 s fun a2 h => (0 ≤ a2 ∧ a2 ≤ kP K) ∧ (∀ p, 0 ≤ p → p < a2 → h 754 p = lvA (kA K) i1 p) ∧ (f754 h0 h))) (m := (fun (s : Int × AH) => jt2 s fun a2 h => (kP K - a2).toNat)) ?_ ?_
  · intro s hs
    obtain ⟨a2, h⟩ := s
    dsimp only [Sum.elim_inl, Sum.elim_inr, jt2, jt3, jt4, jt5, jt6, jt7, jt8] at hs
    obtain ⟨q0, q1, fr⟩ := hs
    unfold gX14_leafFunction_b2
    refine OK_jt2 ?_
    have a0 := akM_0 ak
    have pk := a0.2.1.1
    have xx : h0 454 38 = 476 ∨ h0 454 38 = 615 := a0.1.1
    have e38 : h 454 38 = h0 454 38 := fr _ _ (by omega)
    have x16 : isX16 (h 454 38) := by { rw [e38]; exact a0.1.1 }
    have e18 : h (h 454 38) 18 = kP K := by { rw [e38, fr _ _ (by omega)]; exact pk.2.2.2.2.1 }
    have p256 := pk.2.2.2.2.2.2.1
    have A3 := pk.2.2.2.1
    have w1 : a2 < 256 → w32 (w32 (3 * a2) + i1) = 3 * a2 + i1 := fun y => by { rw [w32_id (x := 3 * a2) (by omega) (by omega), w32_id (by omega) (by omega)] }
    refine OK_jg (by (first | (exact x16) | (first | assumption | omega | ((try dsimp only [jt2, jt3, jt4]); first | omega | (simp (disch := omega) only [jst_eq, jst_ne, jst_ni, jst_o, jI_i, jcpy_out, w32_id, jdiv_nn, jshr_k, jand_255] <;> first | done | omega | assumption)) | (intros; simp (disch := omega) only [jst_eq, jst_ne, jst_ni, jst_o, jI_i, jcpy_out, w32_id, jdiv_nn, *] <;> first | done | omega) | (intros; simp (disch := omega) only [jst_eq, jst_ne, jst_ni, jst_o, jI_i, jcpy_out, w32_id, jdiv_nn] at * <;> first | done | omega | assumption) | (intros; first | rfl | (exfalso; omega) | ((repeat' apply And.intro) <;> first | assumption | rfl | omega | trivial))))) ?_ -- o1
    refine OK_if (fun c1 => ?_) (fun c1 => ?_)
    · skip
      try simp (disch := omega) only [jst_eq, jst_ne, jst_ni, jI_i, jcmp_lt, jcmp_gt, w32_id, jcpy_out, Sum.elim_inl, Sum.elim_inr, jt2, jt3, jt4, jt5, jt6, jt7, jt8] at c1
      refine OK_ir ?_
      try dsimp only [Sum.elim_inl, Sum.elim_inr, jt2, jt3, jt4, jt5, jt6, jt7, jt8]
      refine ⟨?_, ?_⟩
      · (intro p p0 p1; exact q1 p p0 (by omega)) -- o2 e1.1
      · exact fr -- o3 e1.2
    · skip
      try simp (disch := omega) only [jst_eq, jst_ne, jst_ni, jI_i, jcmp_lt, jcmp_gt, w32_id, jcpy_out, Sum.elim_inl, Sum.elim_inr, jt2, jt3, jt4, jt5, jt6, jt7, jt8] at c1
      have W1 := w1 (by omega)
      have PV : h (h 454 38 + 11) (3 * a2 + i1) = lvA (kA K) i1 a2 := by { rw [e38, fr _ _ (by omega), lvA_p k.2]; exact (pk.2.2.2.2.2.2.2 a2 i1 q0.1 (by omega) k.1 k.2).1 }
      refine OK_jg (by (first | (exact x16) | (first | assumption | omega | ((try dsimp only [jt2, jt3, jt4]); first | omega | (simp (disch := omega) only [jst_eq, jst_ne, jst_ni, jst_o, jI_i, jcpy_out, w32_id, jdiv_nn, jshr_k, jand_255] <;> first | done | omega | assumption)) | (intros; simp (disch := omega) only [jst_eq, jst_ne, jst_ni, jst_o, jI_i, jcpy_out, w32_id, jdiv_nn, *] <;> first | done | omega) | (intros; simp (disch := omega) only [jst_eq, jst_ne, jst_ni, jst_o, jI_i, jcpy_out, w32_id, jdiv_nn] at * <;> first | done | omega | assumption) | (intros; first | rfl | (exfalso; omega) | ((repeat' apply And.intro) <;> first | assumption | rfl | omega | trivial))))) ?_ -- o4
      refine OK_jg (by (first | (exact x16) | (first | assumption | omega | ((try dsimp only [jt2, jt3, jt4]); first | omega | (simp (disch := omega) only [jst_eq, jst_ne, jst_ni, jst_o, jI_i, jcpy_out, w32_id, jdiv_nn, jshr_k, jand_255] <;> first | done | omega | assumption)) | (intros; simp (disch := omega) only [jst_eq, jst_ne, jst_ni, jst_o, jI_i, jcpy_out, w32_id, jdiv_nn, *] <;> first | done | omega) | (intros; simp (disch := omega) only [jst_eq, jst_ne, jst_ni, jst_o, jI_i, jcpy_out, w32_id, jdiv_nn] at * <;> first | done | omega | assumption) | (intros; first | rfl | (exfalso; omega) | ((repeat' apply And.intro) <;> first | assumption | rfl | omega | trivial))))) ?_ -- o5
      refine OK_jl ?_
      rw [W1, PV]
      refine OK_jlx (fun x7 ex7 => ?_)
      try simp (disch := omega) only [jst_eq, jst_ne, jst_ni, jI_i, jcmp_lt, jcmp_gt, w32_id, jcpy_out, Sum.elim_inl, Sum.elim_inr, jt2, jt3, jt4, jt5, jt6, jt7, jt8] at ex7
      refine OK_il ?_ ?_
      · try dsimp only [Sum.elim_inl, Sum.elim_inr, jt2, jt3, jt4, jt5, jt6, jt7, jt8]
        refine ⟨?_, ?_, ?_⟩
        · (first | (exact x16) | (first | assumption | omega | ((try dsimp only [jt2, jt3, jt4]); first | omega | (simp (disch := omega) only [jst_eq, jst_ne, jst_ni, jst_o, jI_i, jcpy_out, w32_id, jdiv_nn, jshr_k, jand_255] <;> first | done | omega | assumption)) | (intros; simp (disch := omega) only [jst_eq, jst_ne, jst_ni, jst_o, jI_i, jcpy_out, w32_id, jdiv_nn, *] <;> first | done | omega) | (intros; simp (disch := omega) only [jst_eq, jst_ne, jst_ni, jst_o, jI_i, jcpy_out, w32_id, jdiv_nn] at * <;> first | done | omega | assumption) | (intros; first | rfl | (exfalso; omega) | ((repeat' apply And.intro) <;> first | assumption | rfl | omega | trivial)))) -- o6 e2i.1
        · (intro p p0 p1; rw [show x7 = a2 + 1 by omega] at p1; rw [jst_at]; by_cases y : p = a2; { rw [if_pos y, y] }; { rw [if_neg y]; exact q1 p p0 (by omega) }) -- o7 e2i.2
        · (intro a s y; rw [jst_o (by omega)]; exact fr a s y) -- o8 e2i.3
      · (first | (exact x16) | (first | assumption | omega | ((try dsimp only [jt2, jt3, jt4]); first | omega | (simp (disch := omega) only [jst_eq, jst_ne, jst_ni, jst_o, jI_i, jcpy_out, w32_id, jdiv_nn, jshr_k, jand_255] <;> first | done | omega | assumption)) | (intros; simp (disch := omega) only [jst_eq, jst_ne, jst_ni, jst_o, jI_i, jcpy_out, w32_id, jdiv_nn, *] <;> first | done | omega) | (intros; simp (disch := omega) only [jst_eq, jst_ne, jst_ni, jst_o, jI_i, jcpy_out, w32_id, jdiv_nn] at * <;> first | done | omega | assumption) | (intros; first | rfl | (exfalso; omega) | ((repeat' apply And.intro) <;> first | assumption | rfl | omega | trivial)))) -- o9 e2m
  · try dsimp only [Sum.elim_inl, Sum.elim_inr, jt2, jt3, jt4, jt5, jt6, jt7, jt8]
    refine ⟨?_, ?_, ?_⟩
    · (have := (akM_0 ak).2.1.1.2.2.2.2.2.1; omega) -- o10 init.1
    · (first | (exact x16) | (first | assumption | omega | ((try dsimp only [jt2, jt3, jt4]); first | omega | (simp (disch := omega) only [jst_eq, jst_ne, jst_ni, jst_o, jI_i, jcpy_out, w32_id, jdiv_nn, jshr_k, jand_255] <;> first | done | omega | assumption)) | (intros; simp (disch := omega) only [jst_eq, jst_ne, jst_ni, jst_o, jI_i, jcpy_out, w32_id, jdiv_nn, *] <;> first | done | omega) | (intros; simp (disch := omega) only [jst_eq, jst_ne, jst_ni, jst_o, jI_i, jcpy_out, w32_id, jdiv_nn] at * <;> first | done | omega | assumption) | (intros; first | rfl | (exfalso; omega) | ((repeat' apply And.intro) <;> first | assumption | rfl | omega | trivial)))) -- o11 init.2
    · exact fun _ _ _ => rfl -- o12 init.3
theorem vX14_leafFunction (a1 : Int) {h : AH} {E : EV} {Rf : Int → TR} {W : Int → Int → Int → VW} {K : AK} {tp : Int} {p : Nat} {T : TB} (ak : akM h E Rf W K tp) (xt : MT h E W K tp p T) (k : 0 ≤ a1 ∧ a1 < (kA K).1) (hs : hasT (kP K) (LV E W (kP K) (kA K) p) (lkA (kA K) a1) (lvA (kA K) a1)) : OK (gX14_leafFunction a1 h) (fun r => jt2 r fun v h' => (v = ixL (kP K) (kA K) (LV E W (kP K) (kA K) p) a1) ∧ (f754 h h')) := by
  have a0 := akM_0 ak
  have A3 := a0.2.1.1.2.2.2.1
  unfold gX14_leafFunction
  refine OK_jb (vX14_leafFunction_l2 (E := E) (Rf := Rf) (W := W) (K := K) (tp := tp) _ _ (by exact ak) (by exact k) (by rfl)) (fun o1 r1 => ?_)
  try dsimp only [Sum.elim_inl, Sum.elim_inr, jt2, jt3, jt4, jt5, jt6, jt7, jt8] at r1
  obtain ⟨fu1, fr1⟩ := r1
  try simp (disch := omega) only [jst_eq, jst_ne, jst_ni, jI_i, jcmp_lt, jcmp_gt, w32_id, jcpy_out, Sum.elim_inl, Sum.elim_inr, jt2, jt3, jt4, jt5, jt6, jt7, jt8] at fu1
  try simp (disch := omega) only [jst_eq, jst_ne, jst_ni, jI_i, jcmp_lt, jcmp_gt, w32_id, jcpy_out, Sum.elim_inl, Sum.elim_inr, jt2, jt3, jt4, jt5, jt6, jt7, jt8] at fr1
  have o := RPm_o ak xt (f754_R fr1) (by unfold b20; rw [fr1 _ _ (by omega)]; exact ak.2.2)
  have b0 := akM_0 o.1
  have lk : lkA (kA K) a1 = (kA K).2.1 a1 := if_pos k.2
  have kk := b0.2.2.2.2.2.2.1.1 a1 k.1 k.2
  refine OK_jg (by (first | (exact b0.1.1) | (first | assumption | omega | ((try dsimp only [jt2, jt3, jt4]); first | omega | (simp (disch := omega) only [jst_eq, jst_ne, jst_ni, jst_o, jI_i, jcpy_out, w32_id, jdiv_nn, jshr_k, jand_255] <;> first | done | omega | assumption)) | (intros; simp (disch := omega) only [jst_eq, jst_ne, jst_ni, jst_o, jI_i, jcpy_out, w32_id, jdiv_nn, *] <;> first | done | omega) | (intros; simp (disch := omega) only [jst_eq, jst_ne, jst_ni, jst_o, jI_i, jcpy_out, w32_id, jdiv_nn] at * <;> first | done | omega | assumption) | (intros; first | rfl | (exfalso; omega) | ((repeat' apply And.intro) <;> first | assumption | rfl | omega | trivial))))) ?_ -- o4
  refine OK_jg (by (first | (exact b0.1.1) | (first | assumption | omega | ((try dsimp only [jt2, jt3, jt4]); first | omega | (simp (disch := omega) only [jst_eq, jst_ne, jst_ni, jst_o, jI_i, jcpy_out, w32_id, jdiv_nn, jshr_k, jand_255] <;> first | done | omega | assumption)) | (intros; simp (disch := omega) only [jst_eq, jst_ne, jst_ni, jst_o, jI_i, jcpy_out, w32_id, jdiv_nn, *] <;> first | done | omega) | (intros; simp (disch := omega) only [jst_eq, jst_ne, jst_ni, jst_o, jI_i, jcpy_out, w32_id, jdiv_nn] at * <;> first | done | omega | assumption) | (intros; first | rfl | (exfalso; omega) | ((repeat' apply And.intro) <;> first | assumption | rfl | omega | trivial))))) ?_ -- o5
  refine OK_jb (vIX (E := E) (Rf := Rf) (W := W) (K := K) (tp := tp) (k := lkA (kA K) a1) (p := p) (T := T) (u := lvA (kA K) a1) _ _ (by exact o.2) (by exact fu1) (by (rw [lk]; exact ⟨b0.2.1.2.1 a1 k.1 k.2, o.2.2.1, kk.1, kk.2⟩)) (by exact hs)) (fun v4 r2 => ?_)
  try dsimp only [Sum.elim_inl, Sum.elim_inr, jt2, jt3, jt4, jt5, jt6, jt7, jt8] at r2
  have ix2 := r2
  clear r2
  try simp (disch := omega) only [jst_eq, jst_ne, jst_ni, jI_i, jcmp_lt, jcmp_gt, w32_id, jcpy_out, Sum.elim_inl, Sum.elim_inr, jt2, jt3, jt4, jt5, jt6, jt7, jt8] at ix2
  refine OK_some ?_
  try dsimp only [Sum.elim_inl, Sum.elim_inr, jt2, jt3, jt4, jt5, jt6, jt7, jt8]
  try dsimp only [Sum.elim_inl, Sum.elim_inr, jt2, jt3, jt4, jt5, jt6, jt7, jt8]
  refine ⟨?_, ?_⟩
  · (show _ = ixT _ _ _ _; first | exact ix2 | assumption) -- o10 e1.1
  · exact fr1 -- o11 e1.2
theorem vX14_valueFunction_l2 (i1 : Int) (a20 : Int) {h0 : AH} {E : EV} {Rf : Int → TR} {W : Int → Int → Int → VW} {K : AK} {tp : Int} (ak : akM h0 E Rf W K tp) (k : 0 ≤ i1 ∧ i1 < (kA K).2.2.2.1 ∧ (kA K).2.2.2.2.1 i1 = -1) (z : a20 = 0) : OK (gX14_valueFunction_l2 i1 a20 h0) (fun h' => (∀ p, 0 ≤ p → p < kP K → h' 754 p = lvA (kA K) ((kA K).1 + i1) p) ∧ (f754 h0 h')) := by
  unfold gX14_valueFunction_l2
  refine OK_jit (I := (fun (s : Int × AH) => jt2 s fun a2 h => (0 ≤ a2 ∧ a2 ≤ kP K) ∧ (∀ p, 0 ≤ p → p < a2 → h 754 p = lvA (kA K) ((kA K).1 + i1) p) ∧ (f754 h0 h))) (m := (fun (s : Int × AH) => jt2 s fun a2 h => (kP K - a2).toNat)) ?_ ?_
  · intro s hs
    obtain ⟨a2, h⟩ := s
    dsimp only [Sum.elim_inl, Sum.elim_inr, jt2, jt3, jt4, jt5, jt6, jt7, jt8] at hs
    obtain ⟨q0, q1, fr⟩ := hs
    unfold gX14_valueFunction_b2
    refine OK_jt2 ?_
    have a0 := akM_0 ak
    have pk := a0.2.1.1
    have pc := a0.2.1.2.2.1
    have xx : h0 454 38 = 476 ∨ h0 454 38 = 615 := a0.1.1
    have e38 : h 454 38 = h0 454 38 := fr _ _ (by omega)
    have x16 : isX16 (h 454 38) := by { rw [e38]; exact a0.1.1 }
    have e18 : h (h 454 38) 18 = kP K := by { rw [e38, fr _ _ (by omega)]; exact pk.2.2.2.2.1 }
    have p256 := pk.2.2.2.2.2.2.1
    have np12 := pc.2.2.1
    have PC : 0 ≤ h0 (h0 454 38 + 2) i1 ∧ h0 (h0 454 38 + 2) i1 < 2200 ∧ h0 462 (h0 (h0 454 38 + 2) i1) = (kA K).2.2.2.2.2.2.1 i1 := by { rcases (pc.2.2.2 i1 k.1 k.2.1).2.2 with r | r; { exact ⟨r.2.1, r.2.2.1, r.2.2.2.2.2.1⟩ }; { omega } }
    have e2 : h (h 454 38 + 2) i1 = h0 (h0 454 38 + 2) i1 := by { rw [e38, fr _ _ (by omega)] }
    have PV : h 462 (h (h 454 38 + 2) i1) = lvA (kA K) ((kA K).1 + i1) a2 := by { rw [e2, fr _ _ (by omega), PC.2.2, lvA_v (by omega), show (kA K).1 + i1 - (kA K).1 = i1 by omega] }
    refine OK_jg (by (first | (exact x16) | ((rw [jI_i, e2]; omega)) | (first | assumption | omega | ((try dsimp only [jt2, jt3, jt4]); first | omega | (simp (disch := omega) only [jst_eq, jst_ne, jst_ni, jst_o, jI_i, jcpy_out, w32_id, jdiv_nn, jshr_k, jand_255] <;> first | done | omega | assumption)) | (intros; simp (disch := omega) only [jst_eq, jst_ne, jst_ni, jst_o, jI_i, jcpy_out, w32_id, jdiv_nn, *] <;> first | done | omega) | (intros; simp (disch := omega) only [jst_eq, jst_ne, jst_ni, jst_o, jI_i, jcpy_out, w32_id, jdiv_nn] at * <;> first | done | omega | assumption) | (intros; first | rfl | (exfalso; omega) | ((repeat' apply And.intro) <;> first | assumption | rfl | omega | trivial))))) ?_ -- o1
    refine OK_if (fun c1 => ?_) (fun c1 => ?_)
    · skip
      try simp (disch := omega) only [jst_eq, jst_ne, jst_ni, jI_i, jcmp_lt, jcmp_gt, w32_id, jcpy_out, Sum.elim_inl, Sum.elim_inr, jt2, jt3, jt4, jt5, jt6, jt7, jt8] at c1
      refine OK_ir ?_
      try dsimp only [Sum.elim_inl, Sum.elim_inr, jt2, jt3, jt4, jt5, jt6, jt7, jt8]
      refine ⟨?_, ?_⟩
      · (intro p p0 p1; exact q1 p p0 (by omega)) -- o2 e1.1
      · exact fr -- o3 e1.2
    · skip
      try simp (disch := omega) only [jst_eq, jst_ne, jst_ni, jI_i, jcmp_lt, jcmp_gt, w32_id, jcpy_out, Sum.elim_inl, Sum.elim_inr, jt2, jt3, jt4, jt5, jt6, jt7, jt8] at c1
      refine OK_jg (by (first | (exact x16) | ((rw [jI_i, e2]; omega)) | (first | assumption | omega | ((try dsimp only [jt2, jt3, jt4]); first | omega | (simp (disch := omega) only [jst_eq, jst_ne, jst_ni, jst_o, jI_i, jcpy_out, w32_id, jdiv_nn, jshr_k, jand_255] <;> first | done | omega | assumption)) | (intros; simp (disch := omega) only [jst_eq, jst_ne, jst_ni, jst_o, jI_i, jcpy_out, w32_id, jdiv_nn, *] <;> first | done | omega) | (intros; simp (disch := omega) only [jst_eq, jst_ne, jst_ni, jst_o, jI_i, jcpy_out, w32_id, jdiv_nn] at * <;> first | done | omega | assumption) | (intros; first | rfl | (exfalso; omega) | ((repeat' apply And.intro) <;> first | assumption | rfl | omega | trivial))))) ?_ -- o4
      refine OK_jg (by (first | (exact x16) | ((rw [jI_i, e2]; omega)) | (first | assumption | omega | ((try dsimp only [jt2, jt3, jt4]); first | omega | (simp (disch := omega) only [jst_eq, jst_ne, jst_ni, jst_o, jI_i, jcpy_out, w32_id, jdiv_nn, jshr_k, jand_255] <;> first | done | omega | assumption)) | (intros; simp (disch := omega) only [jst_eq, jst_ne, jst_ni, jst_o, jI_i, jcpy_out, w32_id, jdiv_nn, *] <;> first | done | omega) | (intros; simp (disch := omega) only [jst_eq, jst_ne, jst_ni, jst_o, jI_i, jcpy_out, w32_id, jdiv_nn] at * <;> first | done | omega | assumption) | (intros; first | rfl | (exfalso; omega) | ((repeat' apply And.intro) <;> first | assumption | rfl | omega | trivial))))) ?_ -- o5
      refine OK_jg (by (first | (exact x16) | ((rw [jI_i, e2]; omega)) | (first | assumption | omega | ((try dsimp only [jt2, jt3, jt4]); first | omega | (simp (disch := omega) only [jst_eq, jst_ne, jst_ni, jst_o, jI_i, jcpy_out, w32_id, jdiv_nn, jshr_k, jand_255] <;> first | done | omega | assumption)) | (intros; simp (disch := omega) only [jst_eq, jst_ne, jst_ni, jst_o, jI_i, jcpy_out, w32_id, jdiv_nn, *] <;> first | done | omega) | (intros; simp (disch := omega) only [jst_eq, jst_ne, jst_ni, jst_o, jI_i, jcpy_out, w32_id, jdiv_nn] at * <;> first | done | omega | assumption) | (intros; first | rfl | (exfalso; omega) | ((repeat' apply And.intro) <;> first | assumption | rfl | omega | trivial))))) ?_ -- o6
      refine OK_jl ?_
      rw [PV]
      refine OK_jlx (fun x7 ex7 => ?_)
      try simp (disch := omega) only [jst_eq, jst_ne, jst_ni, jI_i, jcmp_lt, jcmp_gt, w32_id, jcpy_out, Sum.elim_inl, Sum.elim_inr, jt2, jt3, jt4, jt5, jt6, jt7, jt8] at ex7
      refine OK_il ?_ ?_
      · try dsimp only [Sum.elim_inl, Sum.elim_inr, jt2, jt3, jt4, jt5, jt6, jt7, jt8]
        refine ⟨?_, ?_, ?_⟩
        · (first | (exact x16) | ((rw [jI_i, e2]; omega)) | (first | assumption | omega | ((try dsimp only [jt2, jt3, jt4]); first | omega | (simp (disch := omega) only [jst_eq, jst_ne, jst_ni, jst_o, jI_i, jcpy_out, w32_id, jdiv_nn, jshr_k, jand_255] <;> first | done | omega | assumption)) | (intros; simp (disch := omega) only [jst_eq, jst_ne, jst_ni, jst_o, jI_i, jcpy_out, w32_id, jdiv_nn, *] <;> first | done | omega) | (intros; simp (disch := omega) only [jst_eq, jst_ne, jst_ni, jst_o, jI_i, jcpy_out, w32_id, jdiv_nn] at * <;> first | done | omega | assumption) | (intros; first | rfl | (exfalso; omega) | ((repeat' apply And.intro) <;> first | assumption | rfl | omega | trivial)))) -- o7 e2i.1
        · (intro p p0 p1; rw [show x7 = a2 + 1 by omega] at p1; rw [jst_at]; by_cases y : p = a2; { rw [if_pos y, y] }; { rw [if_neg y]; exact q1 p p0 (by omega) }) -- o8 e2i.2
        · (intro a s y; rw [jst_o (by omega)]; exact fr a s y) -- o9 e2i.3
      · (first | (exact x16) | ((rw [jI_i, e2]; omega)) | (first | assumption | omega | ((try dsimp only [jt2, jt3, jt4]); first | omega | (simp (disch := omega) only [jst_eq, jst_ne, jst_ni, jst_o, jI_i, jcpy_out, w32_id, jdiv_nn, jshr_k, jand_255] <;> first | done | omega | assumption)) | (intros; simp (disch := omega) only [jst_eq, jst_ne, jst_ni, jst_o, jI_i, jcpy_out, w32_id, jdiv_nn, *] <;> first | done | omega) | (intros; simp (disch := omega) only [jst_eq, jst_ne, jst_ni, jst_o, jI_i, jcpy_out, w32_id, jdiv_nn] at * <;> first | done | omega | assumption) | (intros; first | rfl | (exfalso; omega) | ((repeat' apply And.intro) <;> first | assumption | rfl | omega | trivial)))) -- o10 e2m
  · try dsimp only [Sum.elim_inl, Sum.elim_inr, jt2, jt3, jt4, jt5, jt6, jt7, jt8]
    refine ⟨?_, ?_, ?_⟩
    · (have := (akM_0 ak).2.1.1.2.2.2.2.2.1; omega) -- o11 init.1
    · (first | (exact x16) | ((rw [jI_i, e2]; omega)) | (first | assumption | omega | ((try dsimp only [jt2, jt3, jt4]); first | omega | (simp (disch := omega) only [jst_eq, jst_ne, jst_ni, jst_o, jI_i, jcpy_out, w32_id, jdiv_nn, jshr_k, jand_255] <;> first | done | omega | assumption)) | (intros; simp (disch := omega) only [jst_eq, jst_ne, jst_ni, jst_o, jI_i, jcpy_out, w32_id, jdiv_nn, *] <;> first | done | omega) | (intros; simp (disch := omega) only [jst_eq, jst_ne, jst_ni, jst_o, jI_i, jcpy_out, w32_id, jdiv_nn] at * <;> first | done | omega | assumption) | (intros; first | rfl | (exfalso; omega) | ((repeat' apply And.intro) <;> first | assumption | rfl | omega | trivial)))) -- o12 init.2
    · exact fun _ _ _ => rfl -- o13 init.3
theorem vX14_valueFunction (a1 : Int) {h : AH} {E : EV} {Rf : Int → TR} {W : Int → Int → Int → VW} {K : AK} {tp : Int} {p : Nat} {T : TB} (ak : akM h E Rf W K tp) (xt : MT h E W K tp p T) (k : 0 ≤ a1 ∧ a1 < (kA K).2.2.2.1 ∧ (kA K).2.2.2.2.1 a1 = -1) (hs : hasT (kP K) (LV E W (kP K) (kA K) p) (lkA (kA K) ((kA K).1 + a1)) (lvA (kA K) ((kA K).1 + a1))) : OK (gX14_valueFunction a1 h) (fun r => jt2 r fun v h' => (v = ixL (kP K) (kA K) (LV E W (kP K) (kA K) p) ((kA K).1 + a1)) ∧ (f754 h h')) := by
  unfold gX14_valueFunction
  refine OK_jb (vX14_valueFunction_l2 (E := E) (Rf := Rf) (W := W) (K := K) (tp := tp) _ _ (by exact ak) (by exact k) (by rfl)) (fun o1 r1 => ?_)
  try dsimp only [Sum.elim_inl, Sum.elim_inr, jt2, jt3, jt4, jt5, jt6, jt7, jt8] at r1
  obtain ⟨fu1, fr1⟩ := r1
  try simp (disch := omega) only [jst_eq, jst_ne, jst_ni, jI_i, jcmp_lt, jcmp_gt, w32_id, jcpy_out, Sum.elim_inl, Sum.elim_inr, jt2, jt3, jt4, jt5, jt6, jt7, jt8] at fu1
  try simp (disch := omega) only [jst_eq, jst_ne, jst_ni, jI_i, jcmp_lt, jcmp_gt, w32_id, jcpy_out, Sum.elim_inl, Sum.elim_inr, jt2, jt3, jt4, jt5, jt6, jt7, jt8] at fr1
  have o := RPm_o ak xt (f754_R fr1) (by unfold b20; rw [fr1 _ _ (by omega)]; exact ak.2.2)
  have b0 := akM_0 o.1
  have np12 := b0.2.1.2.2.1.2.2.1
  have PC : 0 ≤ o1 (o1 454 38 + 2) a1 ∧ o1 (o1 454 38 + 2) a1 < 2200 ∧ o1 461 (o1 (o1 454 38 + 2) a1) = kch ((kA K).2.2.2.2.2.1 a1) ∧ 0 ≤ (kA K).2.2.2.2.2.1 a1 ∧ (kA K).2.2.2.2.2.1 a1 ≤ 2 := by { rcases (b0.2.1.2.2.1.2.2.2 a1 k.1 k.2.1).2.2 with r | r; { exact ⟨r.2.1, r.2.2.1, r.2.2.2.2.1, r.2.2.2.2.2.2.2.1, r.2.2.2.2.2.2.2.2.1⟩ }; { omega } }
  have lk : lkA (kA K) ((kA K).1 + a1) = (kA K).2.2.2.2.2.1 a1 := by { unfold lkA; rw [if_neg (by omega), show (kA K).1 + a1 - (kA K).1 = a1 by omega] }
  refine OK_jg (by (first | (exact b0.1.1) | ((rw [jI_i]; omega)) | (first | assumption | omega | ((try dsimp only [jt2, jt3, jt4]); first | omega | (simp (disch := omega) only [jst_eq, jst_ne, jst_ni, jst_o, jI_i, jcpy_out, w32_id, jdiv_nn, jshr_k, jand_255] <;> first | done | omega | assumption)) | (intros; simp (disch := omega) only [jst_eq, jst_ne, jst_ni, jst_o, jI_i, jcpy_out, w32_id, jdiv_nn, *] <;> first | done | omega) | (intros; simp (disch := omega) only [jst_eq, jst_ne, jst_ni, jst_o, jI_i, jcpy_out, w32_id, jdiv_nn] at * <;> first | done | omega | assumption) | (intros; first | rfl | (exfalso; omega) | ((repeat' apply And.intro) <;> first | assumption | rfl | omega | trivial))))) ?_ -- o4
  refine OK_jg (by (first | (exact b0.1.1) | ((rw [jI_i]; omega)) | (first | assumption | omega | ((try dsimp only [jt2, jt3, jt4]); first | omega | (simp (disch := omega) only [jst_eq, jst_ne, jst_ni, jst_o, jI_i, jcpy_out, w32_id, jdiv_nn, jshr_k, jand_255] <;> first | done | omega | assumption)) | (intros; simp (disch := omega) only [jst_eq, jst_ne, jst_ni, jst_o, jI_i, jcpy_out, w32_id, jdiv_nn, *] <;> first | done | omega) | (intros; simp (disch := omega) only [jst_eq, jst_ne, jst_ni, jst_o, jI_i, jcpy_out, w32_id, jdiv_nn] at * <;> first | done | omega | assumption) | (intros; first | rfl | (exfalso; omega) | ((repeat' apply And.intro) <;> first | assumption | rfl | omega | trivial))))) ?_ -- o5
  refine OK_jg (by (first | (exact b0.1.1) | ((rw [jI_i]; omega)) | (first | assumption | omega | ((try dsimp only [jt2, jt3, jt4]); first | omega | (simp (disch := omega) only [jst_eq, jst_ne, jst_ni, jst_o, jI_i, jcpy_out, w32_id, jdiv_nn, jshr_k, jand_255] <;> first | done | omega | assumption)) | (intros; simp (disch := omega) only [jst_eq, jst_ne, jst_ni, jst_o, jI_i, jcpy_out, w32_id, jdiv_nn, *] <;> first | done | omega) | (intros; simp (disch := omega) only [jst_eq, jst_ne, jst_ni, jst_o, jI_i, jcpy_out, w32_id, jdiv_nn] at * <;> first | done | omega | assumption) | (intros; first | rfl | (exfalso; omega) | ((repeat' apply And.intro) <;> first | assumption | rfl | omega | trivial))))) ?_ -- o6
  refine OK_jb (vIX (E := E) (Rf := Rf) (W := W) (K := K) (tp := tp) (k := lkA (kA K) ((kA K).1 + a1)) (p := p) (T := T) (u := lvA (kA K) ((kA K).1 + a1)) _ _ (by exact o.2) (by exact fu1) (by (rw [lk]; exact ⟨PC.2.2.1, o.2.2.1, PC.2.2.2⟩)) (by exact hs)) (fun v4 r2 => ?_)
  try dsimp only [Sum.elim_inl, Sum.elim_inr, jt2, jt3, jt4, jt5, jt6, jt7, jt8] at r2
  have ix2 := r2
  clear r2
  try simp (disch := omega) only [jst_eq, jst_ne, jst_ni, jI_i, jcmp_lt, jcmp_gt, w32_id, jcpy_out, Sum.elim_inl, Sum.elim_inr, jt2, jt3, jt4, jt5, jt6, jt7, jt8] at ix2
  refine OK_some ?_
  try dsimp only [Sum.elim_inl, Sum.elim_inr, jt2, jt3, jt4, jt5, jt6, jt7, jt8]
  try dsimp only [Sum.elim_inl, Sum.elim_inr, jt2, jt3, jt4, jt5, jt6, jt7, jt8]
  refine ⟨?_, ?_⟩
  · (show _ = ixT _ _ _ _; first | exact ix2 | assumption) -- o11 e1.1
  · exact fr1 -- o12 e1.2
theorem vX14_reckonAll (a1 : Int) (a2 : Int) {h : AH} {E : EV} {Rf : Int → TR} {W : Int → Int → Int → VW} {K : AK} {tp : Int} {p : Nat} {T : TB} {n : Nat} {r0 : Int → Int} (ms : mSt h E Rf W K tp p T n r0) (tq : TQ E W (kP K) (kA K) n (LV E W (kP K) (kA K) p) ∧ dsT (kP K) (LV E W (kP K) (kA K) p) ∧ (LV E W (kP K) (kA K) p).1 ≤ 120) (k : a2 = n ∧ (0 ≤ a1 ∧ a1 < (kA K).2.2.2.1) ∧ (kA K).2.2.2.2.1 a1 ≠ -1 ∧ (kA K).2.2.2.2.2.2.2 a1 < n) : OK (gX14_reckonAll a1 a2 h) (fun h' => (mSt h' E Rf W K tp p T n (fun f => r0 f + sumN (cxC E W (kP K) (LV E W (kP K) (kA K) n) (ct E W (kP K) (kA K)) ((kA K).2.2.2.2.1 a1) (n - (kA K).2.2.2.2.2.2.2 a1) f) (LV E W (kP K) (kA K) n).1.toNat)) ∧ (fQ h h' ∧ b20 h')) := by
  have a0 := akM_0 ms.1
  have pc := a0.2.1.2.2.1
  have np12 := pc.2.2.1
  have PC := pc.2.2.2 a1 k.2.1.1 k.2.1.2
  have VA := a0.2.2.2.2.2.2.1.2.2 a1 k.2.1.1 k.2.1.2
  have ac : 0 ≤ (kA K).2.2.2.2.1 a1 ∧ (kA K).2.2.2.2.1 a1 < E.1.1 := by { rcases VA.2 with r | r; { exact absurd r.1 k.2.2.1 }; { exact r } }
  have am := a0.1.2.1.1
  have oo := a0.1.2.1.2.1.2.2.1 _ ac.1 ac.2
  have n12 := tq.1.1.1
  have w1 : w32 (a2 - h (h 454 38 + 4) a1) = n - (kA K).2.2.2.2.2.2.2 a1 := by { rw [w32_id (by omega) (by omega)]; omega }
  unfold gX14_reckonAll
  refine OK_jg (by (first | (exact a0.1.1) | ((rw [jI_i]; have z1 := am.2.2.1; omega)) | (first | assumption | omega | ((try dsimp only [jt2, jt3, jt4]); first | omega | (simp (disch := omega) only [jst_eq, jst_ne, jst_ni, jst_o, jI_i, jcpy_out, w32_id, jdiv_nn, jshr_k, jand_255] <;> first | done | omega | assumption)) | (intros; simp (disch := omega) only [jst_eq, jst_ne, jst_ni, jst_o, jI_i, jcpy_out, w32_id, jdiv_nn, *] <;> first | done | omega) | (intros; simp (disch := omega) only [jst_eq, jst_ne, jst_ni, jst_o, jI_i, jcpy_out, w32_id, jdiv_nn] at * <;> first | done | omega | assumption) | (intros; first | rfl | (exfalso; omega) | ((repeat' apply And.intro) <;> first | assumption | rfl | omega | trivial))))) ?_ -- o1
  refine OK_jg (by (first | (exact a0.1.1) | ((rw [jI_i]; have z1 := am.2.2.1; omega)) | (first | assumption | omega | ((try dsimp only [jt2, jt3, jt4]); first | omega | (simp (disch := omega) only [jst_eq, jst_ne, jst_ni, jst_o, jI_i, jcpy_out, w32_id, jdiv_nn, jshr_k, jand_255] <;> first | done | omega | assumption)) | (intros; simp (disch := omega) only [jst_eq, jst_ne, jst_ni, jst_o, jI_i, jcpy_out, w32_id, jdiv_nn, *] <;> first | done | omega) | (intros; simp (disch := omega) only [jst_eq, jst_ne, jst_ni, jst_o, jI_i, jcpy_out, w32_id, jdiv_nn] at * <;> first | done | omega | assumption) | (intros; first | rfl | (exfalso; omega) | ((repeat' apply And.intro) <;> first | assumption | rfl | omega | trivial))))) ?_ -- o2
  refine OK_jlx (fun x1 ex1 => ?_)
  try simp (disch := omega) only [jst_eq, jst_ne, jst_ni, jI_i, jcmp_lt, jcmp_gt, w32_id, jcpy_out, Sum.elim_inl, Sum.elim_inr, jt2, jt3, jt4, jt5, jt6, jt7, jt8] at ex1
  refine OK_jlx (fun x2 ex2 => ?_)
  try simp (disch := omega) only [jst_eq, jst_ne, jst_ni, jI_i, jcmp_lt, jcmp_gt, w32_id, jcpy_out, Sum.elim_inl, Sum.elim_inr, jt2, jt3, jt4, jt5, jt6, jt7, jt8] at ex2
  have x2e : x2 = (kA K).2.2.2.2.1 a1 := by { first | omega | exact ex2.trans PC.1 }
  subst x2e
  refine OK_jg (by (first | (exact a0.1.1) | ((rw [jI_i]; have z1 := am.2.2.1; omega)) | (first | assumption | omega | ((try dsimp only [jt2, jt3, jt4]); first | omega | (simp (disch := omega) only [jst_eq, jst_ne, jst_ni, jst_o, jI_i, jcpy_out, w32_id, jdiv_nn, jshr_k, jand_255] <;> first | done | omega | assumption)) | (intros; simp (disch := omega) only [jst_eq, jst_ne, jst_ni, jst_o, jI_i, jcpy_out, w32_id, jdiv_nn, *] <;> first | done | omega) | (intros; simp (disch := omega) only [jst_eq, jst_ne, jst_ni, jst_o, jI_i, jcpy_out, w32_id, jdiv_nn] at * <;> first | done | omega | assumption) | (intros; first | rfl | (exfalso; omega) | ((repeat' apply And.intro) <;> first | assumption | rfl | omega | trivial))))) ?_ -- o3
  refine OK_jlx (fun x3 ex3 => ?_)
  try simp (disch := omega) only [jst_eq, jst_ne, jst_ni, jI_i, jcmp_lt, jcmp_gt, w32_id, jcpy_out, Sum.elim_inl, Sum.elim_inr, jt2, jt3, jt4, jt5, jt6, jt7, jt8] at ex3
  have x1e : x1 = n - (kA K).2.2.2.2.2.2.2 a1 := by { first | omega | exact ex1.trans w1 }
  have x3e : eO E ((kA K).2.2.2.2.1 a1) = x3 := by { rw [← oper_eq ac.1, ← (am.2.2.2 _ ac.1 ac.2).2.1]; first | exact ex3.symm | (rw [ex3]) }
  refine OK_jb (vX14_reckonAll_l35 (E := E) (Rf := Rf) (W := W) (K := K) (tp := tp) (p := p) (T := T) (n := n) (r0 := r0) _ _ _ _ _ (by exact ms) (by exact ⟨⟨tq.1, tq.2.1, tq.2.2, k.1, ac, ⟨oo.1, oo.2.1⟩, a1, k.2.1, rfl, x1e, by omega, by omega⟩, x3e⟩) (by rfl)) (fun o4 r1 => ?_)
  try dsimp only [Sum.elim_inl, Sum.elim_inr, jt2, jt3, jt4, jt5, jt6, jt7, jt8] at r1
  obtain ⟨ms1, fs1⟩ := r1
  try simp (disch := omega) only [jst_eq, jst_ne, jst_ni, jI_i, jcmp_lt, jcmp_gt, w32_id, jcpy_out, Sum.elim_inl, Sum.elim_inr, jt2, jt3, jt4, jt5, jt6, jt7, jt8] at ms1
  try simp (disch := omega) only [jst_eq, jst_ne, jst_ni, jI_i, jcmp_lt, jcmp_gt, w32_id, jcpy_out, Sum.elim_inl, Sum.elim_inr, jt2, jt3, jt4, jt5, jt6, jt7, jt8] at fs1
  refine OK_some ?_
  try dsimp only [Sum.elim_inl, Sum.elim_inr, jt2, jt3, jt4, jt5, jt6, jt7, jt8]
  try dsimp only [Sum.elim_inl, Sum.elim_inr, jt2, jt3, jt4, jt5, jt6, jt7, jt8]
  refine ⟨?_, ?_⟩
  · (rw [x1e] at ms1; exact ms1) -- o7 e1.1
  · exact fs1 -- o8 e1.2
/-- m's counts up to a price -/
def MR (h : AH) (E : EV) (Rf : Int → TR) (W : Int → Int → Int → VW) (K : AK) (tp : Int) (p : Nat) (T : TB) (q : Int) : Prop := akM h E Rf W K tp ∧ MT h E W K tp p T ∧ cM h E W (kP K) (LV E W (kP K) (kA K) p) ∧ ∀ i f, 1 ≤ i → i < q → 0 ≤ f → f < (LV E W (kP K) (kA K) p).1 → h (756 + i) f = ct E W (kP K) (kA K) i f
def tqM (E : EV) (W : Int → Int → Int → VW) (K : AK) (p n : Nat) : Prop := TQ E W (kP K) (kA K) n (LV E W (kP K) (kA K) p) ∧ dsT (kP K) (LV E W (kP K) (kA K) p) ∧ (LV E W (kP K) (kA K) p).1 ≤ 120
theorem vX14_reckon_l22 (i1 : Int) (i2 : Int) (a30 : Int) {h0 : AH} {E : EV} {Rf : Int → TR} {W : Int → Int → Int → VW} {K : AK} {tp : Int} {p : Nat} {T : TB} {n : Nat} (mr : MR h0 E Rf W K tp p T n) (k : i2 = n ∧ 1 ≤ n ∧ n ≤ 12) (z : a30 = 0) : OK (gX14_reckon_l22 i1 i2 a30 h0) (fun h' => (mSt h' E Rf W K tp p T n (fun _ => 0)) ∧ (fQ h0 h' ∧ b20 h')) := by
  unfold gX14_reckon_l22
  refine OK_jit (I := (fun (s : Int × AH) => jt2 s fun a3 h => (0 ≤ a3 ∧ a3 ≤ (LV E W (kP K) (kA K) p).1) ∧ (∀ f, 0 ≤ f → f < a3 → h (756 + n) f = 0) ∧ (∀ (a s : Int), ¬ (a = 756 + (n : Int) ∧ 0 ≤ s) → h a s = h0 a s))) (m := (fun (s : Int × AH) => jt2 s fun a3 h => ((LV E W (kP K) (kA K) p).1 - a3).toNat)) ?_ ?_
  · intro s hs
    obtain ⟨a3, h⟩ := s
    dsimp only [Sum.elim_inl, Sum.elim_inr, jt2, jt3, jt4, jt5, jt6, jt7, jt8] at hs
    obtain ⟨q0, q1, fr⟩ := hs
    unfold gX14_reckon_b22
    refine OK_jt2 ?_
    have e44 : h 454 44 = (LV E W (kP K) (kA K) p).1 := by { rw [fr _ _ (by omega)]; exact mr.2.2.1.1 }
    have L120 := mr.2.1.2.2.2.2.1
    have F : fQ h0 h := fun a s _ _ y _ => fr a s (by omega)
    refine OK_if (fun c1 => ?_) (fun c1 => ?_)
    · skip
      try simp (disch := omega) only [jst_eq, jst_ne, jst_ni, jI_i, jcmp_lt, jcmp_gt, w32_id, jcpy_out, Sum.elim_inl, Sum.elim_inr, jt2, jt3, jt4, jt5, jt6, jt7, jt8] at c1
      refine OK_ir ?_
      try dsimp only [Sum.elim_inl, Sum.elim_inr, jt2, jt3, jt4, jt5, jt6, jt7, jt8]
      refine ⟨?_, ?_⟩
      · (have G := fQ_A F; exact ⟨akM_n mr.1 G.1 ⟨by rw [fr _ _ (by omega)]; exact mr.1.2.1, by unfold b20; rw [fr _ _ (by omega)]; exact mr.1.2.2⟩, MT_g mr.2.1 (akM_0 mr.1).2.2.1.2 G.2, cM_f mr.2.2.1 (fun a s y => fr a s (by omega)), fun i f a b c d => by (rw [fr _ _ (by omega)]; exact mr.2.2.2 i f a b c d), fun f a b => by (rw [q1 f a (by omega)]; first | rfl | decide)⟩) -- o1 e1.1
      · exact ⟨F, by (unfold b20; rw [fr _ _ (by omega)]; exact mr.1.2.2)⟩ -- o2 e1.2
    · skip
      try simp (disch := omega) only [jst_eq, jst_ne, jst_ni, jI_i, jcmp_lt, jcmp_gt, w32_id, jcpy_out, Sum.elim_inl, Sum.elim_inr, jt2, jt3, jt4, jt5, jt6, jt7, jt8] at c1
      refine OK_jg (by (first | assumption | omega | ((try dsimp only [jt2, jt3, jt4]); first | omega | (simp (disch := omega) only [jst_eq, jst_ne, jst_ni, jst_o, jI_i, jcpy_out, w32_id, jdiv_nn, jshr_k, jand_255] <;> first | done | omega | assumption)) | (intros; simp (disch := omega) only [jst_eq, jst_ne, jst_ni, jst_o, jI_i, jcpy_out, w32_id, jdiv_nn, *] <;> first | done | omega) | (intros; simp (disch := omega) only [jst_eq, jst_ne, jst_ni, jst_o, jI_i, jcpy_out, w32_id, jdiv_nn] at * <;> first | done | omega | assumption) | (intros; first | rfl | (exfalso; omega) | ((repeat' apply And.intro) <;> first | assumption | rfl | omega | trivial)))) ?_ -- o3
      refine OK_jg (by (first | assumption | omega | ((try dsimp only [jt2, jt3, jt4]); first | omega | (simp (disch := omega) only [jst_eq, jst_ne, jst_ni, jst_o, jI_i, jcpy_out, w32_id, jdiv_nn, jshr_k, jand_255] <;> first | done | omega | assumption)) | (intros; simp (disch := omega) only [jst_eq, jst_ne, jst_ni, jst_o, jI_i, jcpy_out, w32_id, jdiv_nn, *] <;> first | done | omega) | (intros; simp (disch := omega) only [jst_eq, jst_ne, jst_ni, jst_o, jI_i, jcpy_out, w32_id, jdiv_nn] at * <;> first | done | omega | assumption) | (intros; first | rfl | (exfalso; omega) | ((repeat' apply And.intro) <;> first | assumption | rfl | omega | trivial)))) ?_ -- o4
      refine OK_jl ?_
      rw [show (756 : Int) + i2 = 756 + n by omega]
      refine OK_jlx (fun x30 ex30 => ?_)
      try simp (disch := omega) only [jst_eq, jst_ne, jst_ni, jI_i, jcmp_lt, jcmp_gt, w32_id, jcpy_out, Sum.elim_inl, Sum.elim_inr, jt2, jt3, jt4, jt5, jt6, jt7, jt8] at ex30
      refine OK_il ?_ ?_
      · try dsimp only [Sum.elim_inl, Sum.elim_inr, jt2, jt3, jt4, jt5, jt6, jt7, jt8]
        refine ⟨?_, ?_, ?_⟩
        · (first | assumption | omega | ((try dsimp only [jt2, jt3, jt4]); first | omega | (simp (disch := omega) only [jst_eq, jst_ne, jst_ni, jst_o, jI_i, jcpy_out, w32_id, jdiv_nn, jshr_k, jand_255] <;> first | done | omega | assumption)) | (intros; simp (disch := omega) only [jst_eq, jst_ne, jst_ni, jst_o, jI_i, jcpy_out, w32_id, jdiv_nn, *] <;> first | done | omega) | (intros; simp (disch := omega) only [jst_eq, jst_ne, jst_ni, jst_o, jI_i, jcpy_out, w32_id, jdiv_nn] at * <;> first | done | omega | assumption) | (intros; first | rfl | (exfalso; omega) | ((repeat' apply And.intro) <;> first | assumption | rfl | omega | trivial))) -- o5 e2i.1
        · (intro f f0 f1; rw [show x30 = a3 + 1 by omega] at f1; rw [jst_at]; by_cases y : f = a3; { rw [if_pos y] }; { rw [if_neg y]; exact q1 f f0 (by omega) }) -- o6 e2i.2
        · (intro a s y; rw [jst_o (by omega)]; exact fr a s y) -- o7 e2i.3
      · (first | assumption | omega | ((try dsimp only [jt2, jt3, jt4]); first | omega | (simp (disch := omega) only [jst_eq, jst_ne, jst_ni, jst_o, jI_i, jcpy_out, w32_id, jdiv_nn, jshr_k, jand_255] <;> first | done | omega | assumption)) | (intros; simp (disch := omega) only [jst_eq, jst_ne, jst_ni, jst_o, jI_i, jcpy_out, w32_id, jdiv_nn, *] <;> first | done | omega) | (intros; simp (disch := omega) only [jst_eq, jst_ne, jst_ni, jst_o, jI_i, jcpy_out, w32_id, jdiv_nn] at * <;> first | done | omega | assumption) | (intros; first | rfl | (exfalso; omega) | ((repeat' apply And.intro) <;> first | assumption | rfl | omega | trivial))) -- o8 e2m
  · try dsimp only [Sum.elim_inl, Sum.elim_inr, jt2, jt3, jt4, jt5, jt6, jt7, jt8]
    refine ⟨?_, ?_, ?_⟩
    · (have l := LV_0 (E := E) (W := W) (pts := kP K) (A := kA K) p; omega) -- o9 init.1
    · (first | assumption | omega | ((try dsimp only [jt2, jt3, jt4]); first | omega | (simp (disch := omega) only [jst_eq, jst_ne, jst_ni, jst_o, jI_i, jcpy_out, w32_id, jdiv_nn, jshr_k, jand_255] <;> first | done | omega | assumption)) | (intros; simp (disch := omega) only [jst_eq, jst_ne, jst_ni, jst_o, jI_i, jcpy_out, w32_id, jdiv_nn, *] <;> first | done | omega) | (intros; simp (disch := omega) only [jst_eq, jst_ne, jst_ni, jst_o, jI_i, jcpy_out, w32_id, jdiv_nn] at * <;> first | done | omega | assumption) | (intros; first | rfl | (exfalso; omega) | ((repeat' apply And.intro) <;> first | assumption | rfl | omega | trivial))) -- o10 init.2
    · (first | assumption | omega | ((try dsimp only [jt2, jt3, jt4]); first | omega | (simp (disch := omega) only [jst_eq, jst_ne, jst_ni, jst_o, jI_i, jcpy_out, w32_id, jdiv_nn, jshr_k, jand_255] <;> first | done | omega | assumption)) | (intros; simp (disch := omega) only [jst_eq, jst_ne, jst_ni, jst_o, jI_i, jcpy_out, w32_id, jdiv_nn, *] <;> first | done | omega) | (intros; simp (disch := omega) only [jst_eq, jst_ne, jst_ni, jst_o, jI_i, jcpy_out, w32_id, jdiv_nn] at * <;> first | done | omega | assumption) | (intros; first | rfl | (exfalso; omega) | ((repeat' apply And.intro) <;> first | assumption | rfl | omega | trivial))) -- o11 init.3
theorem ch_l {E : EV} {W : Int → Int → Int → VW} {pts : Int} {A : AD} {n : Nat} {c : Int → Int → Int} {L : TB} (tq : TQ E W pts A n L) (ds : dsT pts L) {h : Int} (h0 : 0 ≤ h) (h1 : h < A.1 + A.2.2.2.1) (l : iLf A h) (p : prL A h = n) : hasT pts L (lkA A h) (lvA A h) ∧ (0 ≤ ixL pts A L h ∧ ixL pts A L h < (LV E W pts A n).1) ∧ ∀ f, chC E W pts A (LV E W pts A n) c n f h = if f = ixL pts A L h then 1 else 0 := by
  have hh := lf_has tq.1 h0 h1 l (by omega)
  have IX := ixT_h hh
  have IE : ixL pts A L h = ixL pts A (LV E W pts A n) h := ixT_e tq.2.1 ds hh
  have IL : ixL pts A (LV E W pts A n) h = ixT pts (LV E W pts A n) (lkA A h) (lvA A h) := rfl
  refine ⟨hasT_e tq.2.1 hh, by rw [IE, IL]; exact ⟨IX.1, IX.2.1⟩, fun f => ?_⟩
  rw [IE]
  unfold chC
  rw [cif_y l]
  by_cases y : f = ixL pts A (LV E W pts A n) h
  · rw [if_pos y, cif_y ⟨p, y.symm⟩]
  · rw [if_neg y, cif_n (fun z => y z.2.symm)]
theorem vX14_reckon_l47 (i1 : Int) (i2 : Int) (a30 : Int) {h0 : AH} {E : EV} {Rf : Int → TR} {W : Int → Int → Int → VW} {K : AK} {tp : Int} {p : Nat} {T : TB} {n : Nat} (ms : mSt h0 E Rf W K tp p T n (fun _ => 0)) (tq : tqM E W K p n) (k : i2 = n) (z : a30 = 0) : OK (gX14_reckon_l47 i1 i2 a30 h0) (fun h' => (mSt h' E Rf W K tp p T n (fun f => sumN (chC E W (kP K) (kA K) (LV E W (kP K) (kA K) n) (ct E W (kP K) (kA K)) n f) (kA K).1.toNat)) ∧ (fQ h0 h' ∧ b20 h')) := by
  unfold gX14_reckon_l47
  refine OK_jit (I := (fun (s : Int × AH) => jt2 s fun a3 h => (0 ≤ a3 ∧ a3 ≤ (kA K).1) ∧ (mSt h E Rf W K tp p T n (fun f => sumN (chC E W (kP K) (kA K) (LV E W (kP K) (kA K) n) (ct E W (kP K) (kA K)) n f) a3.toNat)) ∧ (n ≠ 1 → a3 = 0) ∧ (fQ h0 h ∧ b20 h))) (m := (fun (s : Int × AH) => jt2 s fun a3 h => ((kA K).1 - a3).toNat)) ?_ ?_
  · intro s hs
    obtain ⟨a3, h⟩ := s
    dsimp only [Sum.elim_inl, Sum.elim_inr, jt2, jt3, jt4, jt5, jt6, jt7, jt8] at hs
    obtain ⟨q0, q1, qn, fr⟩ := hs
    unfold gX14_reckon_b47
    refine OK_jt2 ?_
    have a0 := akM_0 q1.1
    have pk := a0.2.1.1
    have A3 := pk.2.2.2.1
    have np0 := a0.2.1.2.2.1.2.1
    have n12 := tq.1.1.1
    have e3 := pk.2.1
    have ex0 := tq.1.2.1.1
    have L120 := tq.2.2
    have pr : a3 < (kA K).1 → prL (kA K) a3 = 1 := fun y => if_pos y
    refine OK_jg (by (first | (exact a0.1.1) | (first | assumption | omega | ((try dsimp only [jt2, jt3, jt4]); first | omega | (simp (disch := omega) only [jst_eq, jst_ne, jst_ni, jst_o, jI_i, jcpy_out, w32_id, jdiv_nn, jshr_k, jand_255] <;> first | done | omega | assumption)) | (intros; simp (disch := omega) only [jst_eq, jst_ne, jst_ni, jst_o, jI_i, jcpy_out, w32_id, jdiv_nn, *] <;> first | done | omega) | (intros; simp (disch := omega) only [jst_eq, jst_ne, jst_ni, jst_o, jI_i, jcpy_out, w32_id, jdiv_nn] at * <;> first | done | omega | assumption) | (intros; first | rfl | (exfalso; omega) | ((repeat' apply And.intro) <;> first | assumption | rfl | omega | trivial))))) ?_ -- o1
    refine OK_if (fun c1 => ?_) (fun c1 => ?_)
    · skip
      try simp (disch := omega) only [jst_eq, jst_ne, jst_ni, jI_i, jcmp_lt, jcmp_gt, w32_id, jcpy_out, Sum.elim_inl, Sum.elim_inr, jt2, jt3, jt4, jt5, jt6, jt7, jt8] at c1
      refine OK_ir ?_
      try dsimp only [Sum.elim_inl, Sum.elim_inr, jt2, jt3, jt4, jt5, jt6, jt7, jt8]
      refine ⟨?_, ?_⟩
      · (rw [show (kA K).1 = a3 by omega]; exact q1) -- o2 e1.1
      · exact fr -- o3 e1.2
    · skip
      try simp (disch := omega) only [jst_eq, jst_ne, jst_ni, jI_i, jcmp_lt, jcmp_gt, w32_id, jcpy_out, Sum.elim_inl, Sum.elim_inr, jt2, jt3, jt4, jt5, jt6, jt7, jt8] at c1
      refine OK_if (fun c2 => ?_) (fun c2 => ?_)
      · skip
        try simp (disch := omega) only [jst_eq, jst_ne, jst_ni, jI_i, jcmp_lt, jcmp_gt, w32_id, jcpy_out, Sum.elim_inl, Sum.elim_inr, jt2, jt3, jt4, jt5, jt6, jt7, jt8] at c2
        have CH := ch_l (c := ct E W (kP K) (kA K)) tq.1 tq.2.1 (h := a3) q0.1 (by omega) (Or.inl (by omega)) (by have := pr (by omega); omega)
        refine OK_jg (by (first | (exact a0.1.1) | (first | assumption | omega | ((try dsimp only [jt2, jt3, jt4]); first | omega | (simp (disch := omega) only [jst_eq, jst_ne, jst_ni, jst_o, jI_i, jcpy_out, w32_id, jdiv_nn, jshr_k, jand_255] <;> first | done | omega | assumption)) | (intros; simp (disch := omega) only [jst_eq, jst_ne, jst_ni, jst_o, jI_i, jcpy_out, w32_id, jdiv_nn, *] <;> first | done | omega) | (intros; simp (disch := omega) only [jst_eq, jst_ne, jst_ni, jst_o, jI_i, jcpy_out, w32_id, jdiv_nn] at * <;> first | done | omega | assumption) | (intros; first | rfl | (exfalso; omega) | ((repeat' apply And.intro) <;> first | assumption | rfl | omega | trivial))))) ?_ -- o4
        refine OK_jb2 (vX14_leafFunction (E := E) (Rf := Rf) (W := W) (K := K) (tp := tp) (p := p) (T := T) _ (by exact q1.1) (by exact q1.2.1) (by exact ⟨q0.1, by omega⟩) (by exact CH.1)) (fun v34 h35 r1 => ?_)
        try dsimp only [Sum.elim_inl, Sum.elim_inr, jt2, jt3, jt4, jt5, jt6, jt7, jt8] at r1
        obtain ⟨lv1, fr1⟩ := r1
        try simp (disch := omega) only [jst_eq, jst_ne, jst_ni, jI_i, jcmp_lt, jcmp_gt, w32_id, jcpy_out, Sum.elim_inl, Sum.elim_inr, jt2, jt3, jt4, jt5, jt6, jt7, jt8] at lv1
        try simp (disch := omega) only [jst_eq, jst_ne, jst_ni, jI_i, jcmp_lt, jcmp_gt, w32_id, jcpy_out, Sum.elim_inl, Sum.elim_inr, jt2, jt3, jt4, jt5, jt6, jt7, jt8] at fr1
        have V34 : v34 = ixL (kP K) (kA K) (LV E W (kP K) (kA K) p) a3 := by first | exact lv1 | assumption
        have M35 := MS_R q1 (f754_R fr1) (cM_f q1.2.2.1 (fun a s y => fr1 a s (by omega))) (by unfold b20; rw [fr1 _ _ (by omega)]; exact q1.1.2.2) n12.2
        rw [show (756 : Int) + i2 = 756 + n by omega]
        refine OK_jg (by (first | (exact a0.1.1) | (first | assumption | omega | ((try dsimp only [jt2, jt3, jt4]); first | omega | (simp (disch := omega) only [jst_eq, jst_ne, jst_ni, jst_o, jI_i, jcpy_out, w32_id, jdiv_nn, jshr_k, jand_255] <;> first | done | omega | assumption)) | (intros; simp (disch := omega) only [jst_eq, jst_ne, jst_ni, jst_o, jI_i, jcpy_out, w32_id, jdiv_nn, *] <;> first | done | omega) | (intros; simp (disch := omega) only [jst_eq, jst_ne, jst_ni, jst_o, jI_i, jcpy_out, w32_id, jdiv_nn] at * <;> first | done | omega | assumption) | (intros; first | rfl | (exfalso; omega) | ((repeat' apply And.intro) <;> first | assumption | rfl | omega | trivial))))) ?_ -- o9
        refine OK_jl ?_
        have UP := MS_s (v := v34) (w := 1) (g := fun f => chC E W (kP K) (kA K) (LV E W (kP K) (kA K) n) (ct E W (kP K) (kA K)) n f a3) M35 n12 (by rw [V34]; exact ⟨CH.2.1.1, by omega⟩) (fun f f0 f1 => by (rw [V34]; exact CH.2.2 f))
        refine OK_jlx (fun x37 ex37 => ?_)
        try simp (disch := omega) only [jst_eq, jst_ne, jst_ni, jI_i, jcmp_lt, jcmp_gt, w32_id, jcpy_out, Sum.elim_inl, Sum.elim_inr, jt2, jt3, jt4, jt5, jt6, jt7, jt8] at ex37
        refine OK_il ?_ ?_
        · try dsimp only [Sum.elim_inl, Sum.elim_inr, jt2, jt3, jt4, jt5, jt6, jt7, jt8]
          refine ⟨?_, ?_, ?_, ?_⟩
          · (first | (exact a0.1.1) | (first | assumption | omega | ((try dsimp only [jt2, jt3, jt4]); first | omega | (simp (disch := omega) only [jst_eq, jst_ne, jst_ni, jst_o, jI_i, jcpy_out, w32_id, jdiv_nn, jshr_k, jand_255] <;> first | done | omega | assumption)) | (intros; simp (disch := omega) only [jst_eq, jst_ne, jst_ni, jst_o, jI_i, jcpy_out, w32_id, jdiv_nn, *] <;> first | done | omega) | (intros; simp (disch := omega) only [jst_eq, jst_ne, jst_ni, jst_o, jI_i, jcpy_out, w32_id, jdiv_nn] at * <;> first | done | omega | assumption) | (intros; first | rfl | (exfalso; omega) | ((repeat' apply And.intro) <;> first | assumption | rfl | omega | trivial)))) -- o10 e2i.1
          · (refine MS_c UP.1 (fun f f0 f1 => ?_); rw [show x37 = a3 + 1 by omega, sumN_s q0.1]) -- o11 e2i.2
          · (intro y; omega) -- o12 e2i.3
          · exact ⟨fQ_t fr.1 (fQ_t (fR_Q (f754_R fr1)) UP.2), UP.1.1.2.2⟩ -- o13 e2i.4
        · (first | (exact a0.1.1) | (first | assumption | omega | ((try dsimp only [jt2, jt3, jt4]); first | omega | (simp (disch := omega) only [jst_eq, jst_ne, jst_ni, jst_o, jI_i, jcpy_out, w32_id, jdiv_nn, jshr_k, jand_255] <;> first | done | omega | assumption)) | (intros; simp (disch := omega) only [jst_eq, jst_ne, jst_ni, jst_o, jI_i, jcpy_out, w32_id, jdiv_nn, *] <;> first | done | omega) | (intros; simp (disch := omega) only [jst_eq, jst_ne, jst_ni, jst_o, jI_i, jcpy_out, w32_id, jdiv_nn] at * <;> first | done | omega | assumption) | (intros; first | rfl | (exfalso; omega) | ((repeat' apply And.intro) <;> first | assumption | rfl | omega | trivial)))) -- o14 e2m
      · skip
        try simp (disch := omega) only [jst_eq, jst_ne, jst_ni, jI_i, jcmp_lt, jcmp_gt, w32_id, jcpy_out, Sum.elim_inl, Sum.elim_inr, jt2, jt3, jt4, jt5, jt6, jt7, jt8] at c2
        refine OK_ir ?_
        try dsimp only [Sum.elim_inl, Sum.elim_inr, jt2, jt3, jt4, jt5, jt6, jt7, jt8]
        refine ⟨?_, ?_⟩
        · (refine MS_c q1 (fun f f0 f1 => ?_); rw [qn (by omega), sumN_0 (n := (kA K).1.toNat) (fun j a b => by (unfold chC; rw [cif_y (show iLf (kA K) j from Or.inl (by omega)), cif_n (fun y => by (have y1 := y.1; have e : prL (kA K) j = 1 := if_pos (by omega); omega))]))]; rfl) -- o15 e3.1
        · exact fr -- o16 e3.2
  · try dsimp only [Sum.elim_inl, Sum.elim_inr, jt2, jt3, jt4, jt5, jt6, jt7, jt8]
    refine ⟨?_, ?_, ?_, ?_⟩
    · (have := (akM_0 ms.1).2.1.1.2.2.1; omega) -- o17 init.1
    · (rw [z]; exact ms) -- o18 init.2
    · (intro _; exact z) -- o19 init.3
    · exact ⟨fQ_r _, ms.1.2.2⟩ -- o20 init.4
/-- what an act's piece counts; nothing, if it is none -/
noncomputable def paQ (E : EV) (W : Int → Int → Int → VW) (pts : Int) (A : AD) (n : Nat) (a f : Int) : Int := cif (A.2.2.2.2.1 a ≠ -1 ∧ A.2.2.2.2.2.2.2 a < n) (sumN (cxC E W pts (LV E W pts A n) (ct E W pts A) (A.2.2.2.2.1 a) (n - A.2.2.2.2.2.2.2 a) f) (LV E W pts A n).1.toNat) 0
theorem vX14_reckon_j139_87 (a1 : Int) (a2 : Int) (a3 : Int) {h : AH} {E : EV} {Rf : Int → TR} {W : Int → Int → Int → VW} {K : AK} {tp : Int} {p : Nat} {T : TB} {n : Nat} {r0 : Int → Int} (ms : mSt h E Rf W K tp p T n r0) (tq : tqM E W K p n) (k : a2 = n ∧ 0 ≤ a3 ∧ a3 < (kA K).2.2.2.1) : OK (gX14_reckon_j139_87 a1 a2 a3 h) (Sum.elim (fun r => jt2 r fun x h' => (x = a3 + 1) ∧ (mSt h' E Rf W K tp p T n (fun f => r0 f + paQ E W (kP K) (kA K) n a3 f)) ∧ (fQ h h' ∧ b20 h')) (fun h' => (0 : Int) = 1)) := by
  have a0 := akM_0 ms.1
  have pc := a0.2.1.2.2.1
  have np12 := pc.2.2.1
  have PC := pc.2.2.2 a3 k.2.1 k.2.2
  have VA := a0.2.2.2.2.2.2.1.2.2 a3 k.2.1 k.2.2
  have wx : w32 (a3 + 1) = a3 + 1 := w32_id (by omega) (by omega)
  unfold gX14_reckon_j139_87
  refine OK_jg (by (first | (exact a0.1.1) | (first | assumption | omega | ((try dsimp only [jt2, jt3, jt4]); first | omega | (simp (disch := omega) only [jst_eq, jst_ne, jst_ni, jst_o, jI_i, jcpy_out, w32_id, jdiv_nn, jshr_k, jand_255] <;> first | done | omega | assumption)) | (intros; simp (disch := omega) only [jst_eq, jst_ne, jst_ni, jst_o, jI_i, jcpy_out, w32_id, jdiv_nn, *] <;> first | done | omega) | (intros; simp (disch := omega) only [jst_eq, jst_ne, jst_ni, jst_o, jI_i, jcpy_out, w32_id, jdiv_nn] at * <;> first | done | omega | assumption) | (intros; first | rfl | (exfalso; omega) | ((repeat' apply And.intro) <;> first | assumption | rfl | omega | trivial))))) ?_ -- o1
  refine OK_jg (by (first | (exact a0.1.1) | (first | assumption | omega | ((try dsimp only [jt2, jt3, jt4]); first | omega | (simp (disch := omega) only [jst_eq, jst_ne, jst_ni, jst_o, jI_i, jcpy_out, w32_id, jdiv_nn, jshr_k, jand_255] <;> first | done | omega | assumption)) | (intros; simp (disch := omega) only [jst_eq, jst_ne, jst_ni, jst_o, jI_i, jcpy_out, w32_id, jdiv_nn, *] <;> first | done | omega) | (intros; simp (disch := omega) only [jst_eq, jst_ne, jst_ni, jst_o, jI_i, jcpy_out, w32_id, jdiv_nn] at * <;> first | done | omega | assumption) | (intros; first | rfl | (exfalso; omega) | ((repeat' apply And.intro) <;> first | assumption | rfl | omega | trivial))))) ?_ -- o2
  refine OK_if (fun c1 => ?_) (fun c1 => ?_)
  · skip
    try simp (disch := omega) only [jst_eq, jst_ne, jst_ni, jI_i, jcmp_lt, jcmp_gt, w32_id, jcpy_out, Sum.elim_inl, Sum.elim_inr, jt2, jt3, jt4, jt5, jt6, jt7, jt8] at c1
    unfold gX14_reckon_j170_87
    refine OK_jlx (fun x27 ex27 => ?_)
    try simp (disch := omega) only [jst_eq, jst_ne, jst_ni, jI_i, jcmp_lt, jcmp_gt, w32_id, jcpy_out, Sum.elim_inl, Sum.elim_inr, jt2, jt3, jt4, jt5, jt6, jt7, jt8] at ex27
    refine OK_some ?_
    try dsimp only [Sum.elim_inl, Sum.elim_inr, jt2, jt3, jt4, jt5, jt6, jt7, jt8]
    try dsimp only [Sum.elim_inl, Sum.elim_inr, jt2, jt3, jt4, jt5, jt6, jt7, jt8]
    refine ⟨?_, ?_, ?_⟩
    · omega -- o3 e1.1
    · exact MS_c ms (fun f f0 f1 => by (unfold paQ; rw [cif_n (fun y => y.1 (by rcases VA.2 with r | r; { exact r.1 }; { omega })), Int.add_zero])) -- o4 e1.2
    · exact ⟨fQ_r _, ms.1.2.2⟩ -- o5 e1.3
  · skip
    try simp (disch := omega) only [jst_eq, jst_ne, jst_ni, jI_i, jcmp_lt, jcmp_gt, w32_id, jcpy_out, Sum.elim_inl, Sum.elim_inr, jt2, jt3, jt4, jt5, jt6, jt7, jt8] at c1
    refine OK_if (fun c2 => ?_) (fun c2 => ?_)
    · skip
      try simp (disch := omega) only [jst_eq, jst_ne, jst_ni, jI_i, jcmp_lt, jcmp_gt, w32_id, jcpy_out, Sum.elim_inl, Sum.elim_inr, jt2, jt3, jt4, jt5, jt6, jt7, jt8] at c2
      unfold gX14_reckon_j170_87
      refine OK_jlx (fun x27 ex27 => ?_)
      try simp (disch := omega) only [jst_eq, jst_ne, jst_ni, jI_i, jcmp_lt, jcmp_gt, w32_id, jcpy_out, Sum.elim_inl, Sum.elim_inr, jt2, jt3, jt4, jt5, jt6, jt7, jt8] at ex27
      refine OK_some ?_
      try dsimp only [Sum.elim_inl, Sum.elim_inr, jt2, jt3, jt4, jt5, jt6, jt7, jt8]
      try dsimp only [Sum.elim_inl, Sum.elim_inr, jt2, jt3, jt4, jt5, jt6, jt7, jt8]
      refine ⟨?_, ?_, ?_⟩
      · omega -- o6 e2.1
      · exact MS_c ms (fun f f0 f1 => by (unfold paQ; rw [cif_n (fun y => by (have y2 := y.2; omega)), Int.add_zero])) -- o7 e2.2
      · exact ⟨fQ_r _, ms.1.2.2⟩ -- o8 e2.3
    · skip
      try simp (disch := omega) only [jst_eq, jst_ne, jst_ni, jI_i, jcmp_lt, jcmp_gt, w32_id, jcpy_out, Sum.elim_inl, Sum.elim_inr, jt2, jt3, jt4, jt5, jt6, jt7, jt8] at c2
      refine OK_jb (vX14_reckonAll (E := E) (Rf := Rf) (W := W) (K := K) (tp := tp) (p := p) (T := T) (n := n) (r0 := r0) _ _ (by exact ms) (by exact tq) (by exact ⟨k.1, k.2, by omega, by omega⟩)) (fun h26 r1 => ?_)
      try dsimp only [Sum.elim_inl, Sum.elim_inr, jt2, jt3, jt4, jt5, jt6, jt7, jt8] at r1
      obtain ⟨ms1, fs1⟩ := r1
      try simp (disch := omega) only [jst_eq, jst_ne, jst_ni, jI_i, jcmp_lt, jcmp_gt, w32_id, jcpy_out, Sum.elim_inl, Sum.elim_inr, jt2, jt3, jt4, jt5, jt6, jt7, jt8] at ms1
      try simp (disch := omega) only [jst_eq, jst_ne, jst_ni, jI_i, jcmp_lt, jcmp_gt, w32_id, jcpy_out, Sum.elim_inl, Sum.elim_inr, jt2, jt3, jt4, jt5, jt6, jt7, jt8] at fs1
      unfold gX14_reckon_j170_87
      refine OK_jlx (fun x27 ex27 => ?_)
      try simp (disch := omega) only [jst_eq, jst_ne, jst_ni, jI_i, jcmp_lt, jcmp_gt, w32_id, jcpy_out, Sum.elim_inl, Sum.elim_inr, jt2, jt3, jt4, jt5, jt6, jt7, jt8] at ex27
      refine OK_some ?_
      try dsimp only [Sum.elim_inl, Sum.elim_inr, jt2, jt3, jt4, jt5, jt6, jt7, jt8]
      try dsimp only [Sum.elim_inl, Sum.elim_inr, jt2, jt3, jt4, jt5, jt6, jt7, jt8]
      refine ⟨?_, ?_, ?_⟩
      · omega -- o12 e3.1
      · exact MS_c ms1 (fun f f0 f1 => by (unfold paQ; rw [cif_y ⟨by omega, by omega⟩])) -- o13 e3.2
      · exact fs1 -- o14 e3.3
theorem vX14_reckon_l87 (i1 : Int) (i2 : Int) (a30 : Int) {h0 : AH} {E : EV} {Rf : Int → TR} {W : Int → Int → Int → VW} {K : AK} {tp : Int} {p : Nat} {T : TB} {n : Nat} (ms : mSt h0 E Rf W K tp p T n (fun f => sumN (chC E W (kP K) (kA K) (LV E W (kP K) (kA K) n) (ct E W (kP K) (kA K)) n f) (kA K).1.toNat)) (tq : tqM E W K p n) (k : i2 = n) (z : a30 = 0) : OK (gX14_reckon_l87 i1 i2 a30 h0) (fun h' => (mSt h' E Rf W K tp p T n (rowC E W (kP K) (kA K) (LV E W (kP K) (kA K) n) (ct E W (kP K) (kA K)) n)) ∧ (fQ h0 h' ∧ b20 h')) := by
  unfold gX14_reckon_l87
  refine OK_jit (I := (fun (s : Int × AH) => jt2 s fun a3 h => (0 ≤ a3 ∧ a3 ≤ (kA K).2.2.2.1) ∧ (mSt h E Rf W K tp p T n (fun f => sumN (chC E W (kP K) (kA K) (LV E W (kP K) (kA K) n) (ct E W (kP K) (kA K)) n f) ((kA K).1 + a3).toNat)) ∧ (fQ h0 h ∧ b20 h))) (m := (fun (s : Int × AH) => jt2 s fun a3 h => ((kA K).2.2.2.1 - a3).toNat)) ?_ ?_
  · intro s hs
    obtain ⟨a3, h⟩ := s
    dsimp only [Sum.elim_inl, Sum.elim_inr, jt2, jt3, jt4, jt5, jt6, jt7, jt8] at hs
    obtain ⟨q0, q1, fr⟩ := hs
    unfold gX14_reckon_b87
    refine OK_jt2 ?_
    have a0 := akM_0 q1.1
    have pc := a0.2.1.2.2.1
    have np12 := pc.2.2.1
    have A3 := a0.2.1.1.2.2.2.1
    have A1 := a0.2.1.1.2.2.1
    have xx : h 454 38 = 476 ∨ h 454 38 = 615 := a0.1.1
    have n12 := tq.1.1.1
    have ex0 := tq.1.2.1.1
    have L120 := tq.2.2
    have e5 := pc.1
    refine OK_jg (by (first | (exact a0.1.1) | (first | assumption | omega | ((try dsimp only [jt2, jt3, jt4]); first | omega | (simp (disch := omega) only [jst_eq, jst_ne, jst_ni, jst_o, jI_i, jcpy_out, w32_id, jdiv_nn, jshr_k, jand_255] <;> first | done | omega | assumption)) | (intros; simp (disch := omega) only [jst_eq, jst_ne, jst_ni, jst_o, jI_i, jcpy_out, w32_id, jdiv_nn, *] <;> first | done | omega) | (intros; simp (disch := omega) only [jst_eq, jst_ne, jst_ni, jst_o, jI_i, jcpy_out, w32_id, jdiv_nn] at * <;> first | done | omega | assumption) | (intros; first | rfl | (exfalso; omega) | ((repeat' apply And.intro) <;> first | assumption | rfl | omega | trivial))))) ?_ -- o1
    refine OK_if (fun c1 => ?_) (fun c1 => ?_)
    · skip
      try simp (disch := omega) only [jst_eq, jst_ne, jst_ni, jI_i, jcmp_lt, jcmp_gt, w32_id, jcpy_out, Sum.elim_inl, Sum.elim_inr, jt2, jt3, jt4, jt5, jt6, jt7, jt8] at c1
      refine OK_ir ?_
      try dsimp only [Sum.elim_inl, Sum.elim_inr, jt2, jt3, jt4, jt5, jt6, jt7, jt8]
      refine ⟨?_, ?_⟩
      · (refine MS_c q1 (fun f f0 f1 => ?_); rw [show a3 = (kA K).2.2.2.1 by omega]; rfl) -- o2 e1.1
      · exact fr -- o3 e1.2
    · skip
      try simp (disch := omega) only [jst_eq, jst_ne, jst_ni, jI_i, jcmp_lt, jcmp_gt, w32_id, jcpy_out, Sum.elim_inl, Sum.elim_inr, jt2, jt3, jt4, jt5, jt6, jt7, jt8] at c1
      have PC := pc.2.2.2 a3 q0.1 (by omega)
      have pE : prL (kA K) ((kA K).1 + a3) = (kA K).2.2.2.2.2.2.2 a3 := by { unfold prL; rw [if_neg (by omega), show (kA K).1 + a3 - (kA K).1 = a3 by omega] }
      have aE : (kA K).2.2.2.2.1 ((kA K).1 + a3 - (kA K).1) = (kA K).2.2.2.2.1 a3 := by { rw [show (kA K).1 + a3 - (kA K).1 = a3 by omega] }
      have wx : w32 (a3 + 1) = a3 + 1 := w32_id (by omega) (by omega)
      have ST : ∀ f, sumN (chC E W (kP K) (kA K) (LV E W (kP K) (kA K) n) (ct E W (kP K) (kA K)) n f) ((kA K).1 + (a3 + 1)).toNat = sumN (chC E W (kP K) (kA K) (LV E W (kP K) (kA K) n) (ct E W (kP K) (kA K)) n f) ((kA K).1 + a3).toNat + chC E W (kP K) (kA K) (LV E W (kP K) (kA K) n) (ct E W (kP K) (kA K)) n f ((kA K).1 + a3) := fun f => by (rw [← Int.add_assoc]; exact sumN_s (by omega))
      have CQ0 : ∀ f, (kA K).2.2.2.2.1 a3 ≠ -1 → chC E W (kP K) (kA K) (LV E W (kP K) (kA K) n) (ct E W (kP K) (kA K)) n f ((kA K).1 + a3) = paQ E W (kP K) (kA K) n a3 f := fun f y => by { unfold chC paQ; rw [cif_n (fun z => by (rcases z with z | z; { omega }; { rw [aE] at z; exact y z })), aE, pE]; by_cases u : (kA K).2.2.2.2.2.2.2 a3 < n; { rw [cif_y u, cif_y ⟨y, u⟩] }; { rw [cif_n u, cif_n (fun z => u z.2)] } }
      have CQ1 : ∀ f, (kA K).2.2.2.2.1 a3 = -1 → paQ E W (kP K) (kA K) n a3 f = 0 := fun f y => cif_n (fun z => z.1 y)
      refine OK_jg (by (first | (exact a0.1.1) | (first | assumption | omega | ((try dsimp only [jt2, jt3, jt4]); first | omega | (simp (disch := omega) only [jst_eq, jst_ne, jst_ni, jst_o, jI_i, jcpy_out, w32_id, jdiv_nn, jshr_k, jand_255] <;> first | done | omega | assumption)) | (intros; simp (disch := omega) only [jst_eq, jst_ne, jst_ni, jst_o, jI_i, jcpy_out, w32_id, jdiv_nn, *] <;> first | done | omega) | (intros; simp (disch := omega) only [jst_eq, jst_ne, jst_ni, jst_o, jI_i, jcpy_out, w32_id, jdiv_nn] at * <;> first | done | omega | assumption) | (intros; first | rfl | (exfalso; omega) | ((repeat' apply And.intro) <;> first | assumption | rfl | omega | trivial))))) ?_ -- o4
      refine OK_if (fun c2 => ?_) (fun c2 => ?_)
      · skip
        try simp (disch := omega) only [jst_eq, jst_ne, jst_ni, jI_i, jcmp_lt, jcmp_gt, w32_id, jcpy_out, Sum.elim_inl, Sum.elim_inr, jt2, jt3, jt4, jt5, jt6, jt7, jt8] at c2
        refine OK_mono (vX14_reckon_j139_87 (E := E) (Rf := Rf) (W := W) (K := K) (tp := tp) (p := p) (T := T) (n := n) _ _ _ (by exact q1) (by exact tq) (by exact ⟨k, q0.1, by omega⟩)) (fun r r1 => ?_)
        rcases r with r | r
        · skip
          have r2 := r1; clear r1; dsimp only [Sum.elim_inl, Sum.elim_inr] at r2
          obtain ⟨y1, y2⟩ := r
          try dsimp only [Sum.elim_inl, Sum.elim_inr, jt2, jt3, jt4, jt5, jt6, jt7, jt8] at r2
          obtain ⟨nx1, ms1, fs1⟩ := r2
          try simp (disch := omega) only [jst_eq, jst_ne, jst_ni, jI_i, jcmp_lt, jcmp_gt, w32_id, jcpy_out, Sum.elim_inl, Sum.elim_inr, jt2, jt3, jt4, jt5, jt6, jt7, jt8] at nx1
          try simp (disch := omega) only [jst_eq, jst_ne, jst_ni, jI_i, jcmp_lt, jcmp_gt, w32_id, jcpy_out, Sum.elim_inl, Sum.elim_inr, jt2, jt3, jt4, jt5, jt6, jt7, jt8] at ms1
          try simp (disch := omega) only [jst_eq, jst_ne, jst_ni, jI_i, jcmp_lt, jcmp_gt, w32_id, jcpy_out, Sum.elim_inl, Sum.elim_inr, jt2, jt3, jt4, jt5, jt6, jt7, jt8] at fs1
          try dsimp only [Sum.elim_inl, Sum.elim_inr, jt2, jt3, jt4, jt5, jt6, jt7, jt8]
          refine ⟨?_, ?_⟩
          · try dsimp only [Sum.elim_inl, Sum.elim_inr, jt2, jt3, jt4, jt5, jt6, jt7, jt8]
            refine ⟨?_, ?_, ?_⟩
            · (first | (exact a0.1.1) | (first | assumption | omega | ((try dsimp only [jt2, jt3, jt4]); first | omega | (simp (disch := omega) only [jst_eq, jst_ne, jst_ni, jst_o, jI_i, jcpy_out, w32_id, jdiv_nn, jshr_k, jand_255] <;> first | done | omega | assumption)) | (intros; simp (disch := omega) only [jst_eq, jst_ne, jst_ni, jst_o, jI_i, jcpy_out, w32_id, jdiv_nn, *] <;> first | done | omega) | (intros; simp (disch := omega) only [jst_eq, jst_ne, jst_ni, jst_o, jI_i, jcpy_out, w32_id, jdiv_nn] at * <;> first | done | omega | assumption) | (intros; first | rfl | (exfalso; omega) | ((repeat' apply And.intro) <;> first | assumption | rfl | omega | trivial)))) -- o8 e2i.1
            · (refine MS_c ms1 (fun f f0 f1 => ?_); rw [show y1 = a3 + 1 by omega, ST f, CQ0 f (by rcases PC.2.2 with r | r; { omega }; { omega })]) -- o9 e2i.2
            · exact ⟨fQ_t fr.1 fs1.1, fs1.2⟩ -- o10 e2i.3
          · (first | (exact a0.1.1) | (first | assumption | omega | ((try dsimp only [jt2, jt3, jt4]); first | omega | (simp (disch := omega) only [jst_eq, jst_ne, jst_ni, jst_o, jI_i, jcpy_out, w32_id, jdiv_nn, jshr_k, jand_255] <;> first | done | omega | assumption)) | (intros; simp (disch := omega) only [jst_eq, jst_ne, jst_ni, jst_o, jI_i, jcpy_out, w32_id, jdiv_nn, *] <;> first | done | omega) | (intros; simp (disch := omega) only [jst_eq, jst_ne, jst_ni, jst_o, jI_i, jcpy_out, w32_id, jdiv_nn] at * <;> first | done | omega | assumption) | (intros; first | rfl | (exfalso; omega) | ((repeat' apply And.intro) <;> first | assumption | rfl | omega | trivial)))) -- o11 e2m
        · skip
          have r3 := r1; clear r1; dsimp only [Sum.elim_inl, Sum.elim_inr] at r3
          try dsimp only [Sum.elim_inl, Sum.elim_inr, jt2, jt3, jt4, jt5, jt6, jt7, jt8] at r3
          have no2 := r3
          clear r3
          try simp (disch := omega) only [jst_eq, jst_ne, jst_ni, jI_i, jcmp_lt, jcmp_gt, w32_id, jcpy_out, Sum.elim_inl, Sum.elim_inr, jt2, jt3, jt4, jt5, jt6, jt7, jt8] at no2
          try dsimp only [Sum.elim_inl, Sum.elim_inr, jt2, jt3, jt4, jt5, jt6, jt7, jt8]
          try dsimp only [Sum.elim_inl, Sum.elim_inr, jt2, jt3, jt4, jt5, jt6, jt7, jt8]
          refine ⟨?_, ?_⟩
          · (first | (exact a0.1.1) | (first | assumption | omega | ((try dsimp only [jt2, jt3, jt4]); first | omega | (simp (disch := omega) only [jst_eq, jst_ne, jst_ni, jst_o, jI_i, jcpy_out, w32_id, jdiv_nn, jshr_k, jand_255] <;> first | done | omega | assumption)) | (intros; simp (disch := omega) only [jst_eq, jst_ne, jst_ni, jst_o, jI_i, jcpy_out, w32_id, jdiv_nn, *] <;> first | done | omega) | (intros; simp (disch := omega) only [jst_eq, jst_ne, jst_ni, jst_o, jI_i, jcpy_out, w32_id, jdiv_nn] at * <;> first | done | omega | assumption) | (intros; first | rfl | (exfalso; omega) | ((repeat' apply And.intro) <;> first | assumption | rfl | omega | trivial)))) -- o12 e3.1
          · (first | (exact a0.1.1) | (first | assumption | omega | ((try dsimp only [jt2, jt3, jt4]); first | omega | (simp (disch := omega) only [jst_eq, jst_ne, jst_ni, jst_o, jI_i, jcpy_out, w32_id, jdiv_nn, jshr_k, jand_255] <;> first | done | omega | assumption)) | (intros; simp (disch := omega) only [jst_eq, jst_ne, jst_ni, jst_o, jI_i, jcpy_out, w32_id, jdiv_nn, *] <;> first | done | omega) | (intros; simp (disch := omega) only [jst_eq, jst_ne, jst_ni, jst_o, jI_i, jcpy_out, w32_id, jdiv_nn] at * <;> first | done | omega | assumption) | (intros; first | rfl | (exfalso; omega) | ((repeat' apply And.intro) <;> first | assumption | rfl | omega | trivial)))) -- o13 e3.2
      · skip
        try simp (disch := omega) only [jst_eq, jst_ne, jst_ni, jI_i, jcmp_lt, jcmp_gt, w32_id, jcpy_out, Sum.elim_inl, Sum.elim_inr, jt2, jt3, jt4, jt5, jt6, jt7, jt8] at c2
        have AN : (kA K).2.2.2.2.1 a3 = -1 := by { rcases PC.2.2 with r | r; { exact r.1 }; { omega } }
        refine OK_if (fun c3 => ?_) (fun c3 => ?_)
        · skip
          try simp (disch := omega) only [jst_eq, jst_ne, jst_ni, jI_i, jcmp_lt, jcmp_gt, w32_id, jcpy_out, Sum.elim_inl, Sum.elim_inr, jt2, jt3, jt4, jt5, jt6, jt7, jt8] at c3
          have CH := ch_l (c := ct E W (kP K) (kA K)) tq.1 tq.2.1 (h := (kA K).1 + a3) (by omega) (by omega) (Or.inr (by rw [aE]; exact AN)) (by rw [pE]; omega)
          refine OK_jg (by (first | (exact a0.1.1) | (first | assumption | omega | ((try dsimp only [jt2, jt3, jt4]); first | omega | (simp (disch := omega) only [jst_eq, jst_ne, jst_ni, jst_o, jI_i, jcpy_out, w32_id, jdiv_nn, jshr_k, jand_255] <;> first | done | omega | assumption)) | (intros; simp (disch := omega) only [jst_eq, jst_ne, jst_ni, jst_o, jI_i, jcpy_out, w32_id, jdiv_nn, *] <;> first | done | omega) | (intros; simp (disch := omega) only [jst_eq, jst_ne, jst_ni, jst_o, jI_i, jcpy_out, w32_id, jdiv_nn] at * <;> first | done | omega | assumption) | (intros; first | rfl | (exfalso; omega) | ((repeat' apply And.intro) <;> first | assumption | rfl | omega | trivial))))) ?_ -- o14
          refine OK_jb2 (vX14_valueFunction (E := E) (Rf := Rf) (W := W) (K := K) (tp := tp) (p := p) (T := T) _ (by exact q1.1) (by exact q1.2.1) (by exact ⟨q0.1, by omega, AN⟩) (by exact CH.1)) (fun v20 h21 r4 => ?_)
          try dsimp only [Sum.elim_inl, Sum.elim_inr, jt2, jt3, jt4, jt5, jt6, jt7, jt8] at r4
          obtain ⟨lv3, fr3⟩ := r4
          try simp (disch := omega) only [jst_eq, jst_ne, jst_ni, jI_i, jcmp_lt, jcmp_gt, w32_id, jcpy_out, Sum.elim_inl, Sum.elim_inr, jt2, jt3, jt4, jt5, jt6, jt7, jt8] at lv3
          try simp (disch := omega) only [jst_eq, jst_ne, jst_ni, jI_i, jcmp_lt, jcmp_gt, w32_id, jcpy_out, Sum.elim_inl, Sum.elim_inr, jt2, jt3, jt4, jt5, jt6, jt7, jt8] at fr3
          have V20 : v20 = ixL (kP K) (kA K) (LV E W (kP K) (kA K) p) ((kA K).1 + a3) := by first | exact lv3 | assumption
          have M21 := MS_R q1 (f754_R fr3) (cM_f q1.2.2.1 (fun a s y => fr3 a s (by omega))) (by unfold b20; rw [fr3 _ _ (by omega)]; exact q1.1.2.2) n12.2
          rw [show (756 : Int) + i2 = 756 + n by omega]
          refine OK_jg (by (first | (exact a0.1.1) | (first | assumption | omega | ((try dsimp only [jt2, jt3, jt4]); first | omega | (simp (disch := omega) only [jst_eq, jst_ne, jst_ni, jst_o, jI_i, jcpy_out, w32_id, jdiv_nn, jshr_k, jand_255] <;> first | done | omega | assumption)) | (intros; simp (disch := omega) only [jst_eq, jst_ne, jst_ni, jst_o, jI_i, jcpy_out, w32_id, jdiv_nn, *] <;> first | done | omega) | (intros; simp (disch := omega) only [jst_eq, jst_ne, jst_ni, jst_o, jI_i, jcpy_out, w32_id, jdiv_nn] at * <;> first | done | omega | assumption) | (intros; first | rfl | (exfalso; omega) | ((repeat' apply And.intro) <;> first | assumption | rfl | omega | trivial))))) ?_ -- o19
          refine OK_jl ?_
          have UP := MS_s (v := v20) (w := 1) (g := fun f => chC E W (kP K) (kA K) (LV E W (kP K) (kA K) n) (ct E W (kP K) (kA K)) n f ((kA K).1 + a3)) M21 n12 (by rw [V20]; exact ⟨CH.2.1.1, by omega⟩) (fun f f0 f1 => by (rw [V20]; exact CH.2.2 f))
          refine OK_mono (vX14_reckon_j139_87 (E := E) (Rf := Rf) (W := W) (K := K) (tp := tp) (p := p) (T := T) (n := n) _ _ _ (by exact UP.1) (by exact tq) (by exact ⟨k, q0.1, by omega⟩)) (fun r r5 => ?_)
          rcases r with r | r
          · skip
            have r6 := r5; clear r5; dsimp only [Sum.elim_inl, Sum.elim_inr] at r6
            obtain ⟨y3, y4⟩ := r
            try dsimp only [Sum.elim_inl, Sum.elim_inr, jt2, jt3, jt4, jt5, jt6, jt7, jt8] at r6
            obtain ⟨nx4, ms4, fs4⟩ := r6
            try simp (disch := omega) only [jst_eq, jst_ne, jst_ni, jI_i, jcmp_lt, jcmp_gt, w32_id, jcpy_out, Sum.elim_inl, Sum.elim_inr, jt2, jt3, jt4, jt5, jt6, jt7, jt8] at nx4
            try simp (disch := omega) only [jst_eq, jst_ne, jst_ni, jI_i, jcmp_lt, jcmp_gt, w32_id, jcpy_out, Sum.elim_inl, Sum.elim_inr, jt2, jt3, jt4, jt5, jt6, jt7, jt8] at ms4
            try simp (disch := omega) only [jst_eq, jst_ne, jst_ni, jI_i, jcmp_lt, jcmp_gt, w32_id, jcpy_out, Sum.elim_inl, Sum.elim_inr, jt2, jt3, jt4, jt5, jt6, jt7, jt8] at fs4
            try dsimp only [Sum.elim_inl, Sum.elim_inr, jt2, jt3, jt4, jt5, jt6, jt7, jt8]
            refine ⟨?_, ?_⟩
            · try dsimp only [Sum.elim_inl, Sum.elim_inr, jt2, jt3, jt4, jt5, jt6, jt7, jt8]
              refine ⟨?_, ?_, ?_⟩
              · (first | (exact a0.1.1) | (first | assumption | omega | ((try dsimp only [jt2, jt3, jt4]); first | omega | (simp (disch := omega) only [jst_eq, jst_ne, jst_ni, jst_o, jI_i, jcpy_out, w32_id, jdiv_nn, jshr_k, jand_255] <;> first | done | omega | assumption)) | (intros; simp (disch := omega) only [jst_eq, jst_ne, jst_ni, jst_o, jI_i, jcpy_out, w32_id, jdiv_nn, *] <;> first | done | omega) | (intros; simp (disch := omega) only [jst_eq, jst_ne, jst_ni, jst_o, jI_i, jcpy_out, w32_id, jdiv_nn] at * <;> first | done | omega | assumption) | (intros; first | rfl | (exfalso; omega) | ((repeat' apply And.intro) <;> first | assumption | rfl | omega | trivial)))) -- o23 e4i.1
              · (refine MS_c ms4 (fun f f0 f1 => ?_); rw [show y3 = a3 + 1 by omega, ST f, CQ1 f AN, Int.add_zero]) -- o24 e4i.2
              · exact ⟨fQ_t fr.1 (fQ_t (fR_Q (f754_R fr3)) (fQ_t UP.2 fs4.1)), fs4.2⟩ -- o25 e4i.3
            · (first | (exact a0.1.1) | (first | assumption | omega | ((try dsimp only [jt2, jt3, jt4]); first | omega | (simp (disch := omega) only [jst_eq, jst_ne, jst_ni, jst_o, jI_i, jcpy_out, w32_id, jdiv_nn, jshr_k, jand_255] <;> first | done | omega | assumption)) | (intros; simp (disch := omega) only [jst_eq, jst_ne, jst_ni, jst_o, jI_i, jcpy_out, w32_id, jdiv_nn, *] <;> first | done | omega) | (intros; simp (disch := omega) only [jst_eq, jst_ne, jst_ni, jst_o, jI_i, jcpy_out, w32_id, jdiv_nn] at * <;> first | done | omega | assumption) | (intros; first | rfl | (exfalso; omega) | ((repeat' apply And.intro) <;> first | assumption | rfl | omega | trivial)))) -- o26 e4m
          · skip
            have r7 := r5; clear r5; dsimp only [Sum.elim_inl, Sum.elim_inr] at r7
            try dsimp only [Sum.elim_inl, Sum.elim_inr, jt2, jt3, jt4, jt5, jt6, jt7, jt8] at r7
            have no5 := r7
            clear r7
            try simp (disch := omega) only [jst_eq, jst_ne, jst_ni, jI_i, jcmp_lt, jcmp_gt, w32_id, jcpy_out, Sum.elim_inl, Sum.elim_inr, jt2, jt3, jt4, jt5, jt6, jt7, jt8] at no5
            try dsimp only [Sum.elim_inl, Sum.elim_inr, jt2, jt3, jt4, jt5, jt6, jt7, jt8]
            try dsimp only [Sum.elim_inl, Sum.elim_inr, jt2, jt3, jt4, jt5, jt6, jt7, jt8]
            refine ⟨?_, ?_⟩
            · (first | (exact a0.1.1) | (first | assumption | omega | ((try dsimp only [jt2, jt3, jt4]); first | omega | (simp (disch := omega) only [jst_eq, jst_ne, jst_ni, jst_o, jI_i, jcpy_out, w32_id, jdiv_nn, jshr_k, jand_255] <;> first | done | omega | assumption)) | (intros; simp (disch := omega) only [jst_eq, jst_ne, jst_ni, jst_o, jI_i, jcpy_out, w32_id, jdiv_nn, *] <;> first | done | omega) | (intros; simp (disch := omega) only [jst_eq, jst_ne, jst_ni, jst_o, jI_i, jcpy_out, w32_id, jdiv_nn] at * <;> first | done | omega | assumption) | (intros; first | rfl | (exfalso; omega) | ((repeat' apply And.intro) <;> first | assumption | rfl | omega | trivial)))) -- o27 e5.1
            · (first | (exact a0.1.1) | (first | assumption | omega | ((try dsimp only [jt2, jt3, jt4]); first | omega | (simp (disch := omega) only [jst_eq, jst_ne, jst_ni, jst_o, jI_i, jcpy_out, w32_id, jdiv_nn, jshr_k, jand_255] <;> first | done | omega | assumption)) | (intros; simp (disch := omega) only [jst_eq, jst_ne, jst_ni, jst_o, jI_i, jcpy_out, w32_id, jdiv_nn, *] <;> first | done | omega) | (intros; simp (disch := omega) only [jst_eq, jst_ne, jst_ni, jst_o, jI_i, jcpy_out, w32_id, jdiv_nn] at * <;> first | done | omega | assumption) | (intros; first | rfl | (exfalso; omega) | ((repeat' apply And.intro) <;> first | assumption | rfl | omega | trivial)))) -- o28 e5.2
        · skip
          try simp (disch := omega) only [jst_eq, jst_ne, jst_ni, jI_i, jcmp_lt, jcmp_gt, w32_id, jcpy_out, Sum.elim_inl, Sum.elim_inr, jt2, jt3, jt4, jt5, jt6, jt7, jt8] at c3
          refine OK_mono (vX14_reckon_j139_87 (E := E) (Rf := Rf) (W := W) (K := K) (tp := tp) (p := p) (T := T) (n := n) _ _ _ (by exact q1) (by exact tq) (by exact ⟨k, q0.1, by omega⟩)) (fun r r8 => ?_)
          rcases r with r | r
          · skip
            have r9 := r8; clear r8; dsimp only [Sum.elim_inl, Sum.elim_inr] at r9
            obtain ⟨y5, y6⟩ := r
            try dsimp only [Sum.elim_inl, Sum.elim_inr, jt2, jt3, jt4, jt5, jt6, jt7, jt8] at r9
            obtain ⟨nx6, ms6, fs6⟩ := r9
            try simp (disch := omega) only [jst_eq, jst_ne, jst_ni, jI_i, jcmp_lt, jcmp_gt, w32_id, jcpy_out, Sum.elim_inl, Sum.elim_inr, jt2, jt3, jt4, jt5, jt6, jt7, jt8] at nx6
            try simp (disch := omega) only [jst_eq, jst_ne, jst_ni, jI_i, jcmp_lt, jcmp_gt, w32_id, jcpy_out, Sum.elim_inl, Sum.elim_inr, jt2, jt3, jt4, jt5, jt6, jt7, jt8] at ms6
            try simp (disch := omega) only [jst_eq, jst_ne, jst_ni, jI_i, jcmp_lt, jcmp_gt, w32_id, jcpy_out, Sum.elim_inl, Sum.elim_inr, jt2, jt3, jt4, jt5, jt6, jt7, jt8] at fs6
            try dsimp only [Sum.elim_inl, Sum.elim_inr, jt2, jt3, jt4, jt5, jt6, jt7, jt8]
            refine ⟨?_, ?_⟩
            · try dsimp only [Sum.elim_inl, Sum.elim_inr, jt2, jt3, jt4, jt5, jt6, jt7, jt8]
              refine ⟨?_, ?_, ?_⟩
              · (first | (exact a0.1.1) | (first | assumption | omega | ((try dsimp only [jt2, jt3, jt4]); first | omega | (simp (disch := omega) only [jst_eq, jst_ne, jst_ni, jst_o, jI_i, jcpy_out, w32_id, jdiv_nn, jshr_k, jand_255] <;> first | done | omega | assumption)) | (intros; simp (disch := omega) only [jst_eq, jst_ne, jst_ni, jst_o, jI_i, jcpy_out, w32_id, jdiv_nn, *] <;> first | done | omega) | (intros; simp (disch := omega) only [jst_eq, jst_ne, jst_ni, jst_o, jI_i, jcpy_out, w32_id, jdiv_nn] at * <;> first | done | omega | assumption) | (intros; first | rfl | (exfalso; omega) | ((repeat' apply And.intro) <;> first | assumption | rfl | omega | trivial)))) -- o32 e6i.1
              · (refine MS_c ms6 (fun f f0 f1 => ?_); have ch : chC E W (kP K) (kA K) (LV E W (kP K) (kA K) n) (ct E W (kP K) (kA K)) n f ((kA K).1 + a3) = 0 := (by unfold chC; rw [cif_y (show iLf (kA K) ((kA K).1 + a3) from Or.inr (by rw [aE]; exact AN)), cif_n (fun z => by (have z1 := z.1; rw [pE] at z1; omega))]); rw [show y5 = a3 + 1 by omega, ST f, CQ1 f AN, ch]) -- o33 e6i.2
              · exact ⟨fQ_t fr.1 fs6.1, fs6.2⟩ -- o34 e6i.3
            · (first | (exact a0.1.1) | (first | assumption | omega | ((try dsimp only [jt2, jt3, jt4]); first | omega | (simp (disch := omega) only [jst_eq, jst_ne, jst_ni, jst_o, jI_i, jcpy_out, w32_id, jdiv_nn, jshr_k, jand_255] <;> first | done | omega | assumption)) | (intros; simp (disch := omega) only [jst_eq, jst_ne, jst_ni, jst_o, jI_i, jcpy_out, w32_id, jdiv_nn, *] <;> first | done | omega) | (intros; simp (disch := omega) only [jst_eq, jst_ne, jst_ni, jst_o, jI_i, jcpy_out, w32_id, jdiv_nn] at * <;> first | done | omega | assumption) | (intros; first | rfl | (exfalso; omega) | ((repeat' apply And.intro) <;> first | assumption | rfl | omega | trivial)))) -- o35 e6m
          · skip
            have r10 := r8; clear r8; dsimp only [Sum.elim_inl, Sum.elim_inr] at r10
            try dsimp only [Sum.elim_inl, Sum.elim_inr, jt2, jt3, jt4, jt5, jt6, jt7, jt8] at r10
            have no7 := r10
            clear r10
            try simp (disch := omega) only [jst_eq, jst_ne, jst_ni, jI_i, jcmp_lt, jcmp_gt, w32_id, jcpy_out, Sum.elim_inl, Sum.elim_inr, jt2, jt3, jt4, jt5, jt6, jt7, jt8] at no7
            try dsimp only [Sum.elim_inl, Sum.elim_inr, jt2, jt3, jt4, jt5, jt6, jt7, jt8]
            try dsimp only [Sum.elim_inl, Sum.elim_inr, jt2, jt3, jt4, jt5, jt6, jt7, jt8]
            refine ⟨?_, ?_⟩
            · (first | (exact a0.1.1) | (first | assumption | omega | ((try dsimp only [jt2, jt3, jt4]); first | omega | (simp (disch := omega) only [jst_eq, jst_ne, jst_ni, jst_o, jI_i, jcpy_out, w32_id, jdiv_nn, jshr_k, jand_255] <;> first | done | omega | assumption)) | (intros; simp (disch := omega) only [jst_eq, jst_ne, jst_ni, jst_o, jI_i, jcpy_out, w32_id, jdiv_nn, *] <;> first | done | omega) | (intros; simp (disch := omega) only [jst_eq, jst_ne, jst_ni, jst_o, jI_i, jcpy_out, w32_id, jdiv_nn] at * <;> first | done | omega | assumption) | (intros; first | rfl | (exfalso; omega) | ((repeat' apply And.intro) <;> first | assumption | rfl | omega | trivial)))) -- o36 e7.1
            · (first | (exact a0.1.1) | (first | assumption | omega | ((try dsimp only [jt2, jt3, jt4]); first | omega | (simp (disch := omega) only [jst_eq, jst_ne, jst_ni, jst_o, jI_i, jcpy_out, w32_id, jdiv_nn, jshr_k, jand_255] <;> first | done | omega | assumption)) | (intros; simp (disch := omega) only [jst_eq, jst_ne, jst_ni, jst_o, jI_i, jcpy_out, w32_id, jdiv_nn, *] <;> first | done | omega) | (intros; simp (disch := omega) only [jst_eq, jst_ne, jst_ni, jst_o, jI_i, jcpy_out, w32_id, jdiv_nn] at * <;> first | done | omega | assumption) | (intros; first | rfl | (exfalso; omega) | ((repeat' apply And.intro) <;> first | assumption | rfl | omega | trivial)))) -- o37 e7.2
  · try dsimp only [Sum.elim_inl, Sum.elim_inr, jt2, jt3, jt4, jt5, jt6, jt7, jt8]
    refine ⟨?_, ?_, ?_⟩
    · (have := (akM_0 ms.1).2.1.2.2.1.2.1; omega) -- o38 init.1
    · (rw [z, Int.add_zero]; exact ms) -- o39 init.2
    · exact ⟨fQ_r _, ms.1.2.2⟩ -- o40 init.3
theorem MR_S {h : AH} {E : EV} {Rf : Int → TR} {W : Int → Int → Int → VW} {K : AK} {tp : Int} {p : Nat} {T : TB} {n : Nat} (tq : tqM E W K p n) (ms : mSt h E Rf W K tp p T n (rowC E W (kP K) (kA K) (LV E W (kP K) (kA K) n) (ct E W (kP K) (kA K)) n)) : MR h E Rf W K tp p T ((n : Int) + 1) := by
  refine ⟨ms.1, ms.2.1, ms.2.2.1, fun i f a b c d => ?_⟩
  have n12 := tq.1.1.1
  by_cases y : i < (n : Int)
  · exact ms.2.2.2.1 i f a y c d
  · have e : i = n := by omega
    have cb := ct_b tq.1.1 (q := (n : Int)) (f := f) (Int.le_refl _) c
    have c0 := ct_0 (E := E) (W := W) (pts := kP K) (A := kA K) n f
    have cr := ct_row (E := E) (W := W) (pts := kP K) (A := kA K) (f := f) (ppA_V tq.1.1.2.2.2.1) n12.1 n12.2
    rw [e, ms.2.2.2.2 f c d, ← cr, w64_id (by omega) (by omega)]
theorem vX14_reckon_l15 (i1 : Int) (a20 : Int) {h0 : AH} {E : EV} {Rf : Int → TR} {W : Int → Int → Int → VW} {K : AK} {tp : Int} {p : Nat} {T : TB} (mr : MR h0 E Rf W K tp p T 1) (tq : tqM E W K p p) (k : i1 = p) (z : a20 = 1) : OK (gX14_reckon_l15 i1 a20 h0) (fun h' => (MR h' E Rf W K tp p T ((p : Int) + 1)) ∧ (fQ h0 h' ∧ b20 h')) := by
  unfold gX14_reckon_l15
  refine OK_jit (I := (fun (s : Int × AH) => jt2 s fun a2 h => (1 ≤ a2 ∧ a2 ≤ p + 1) ∧ (MR h E Rf W K tp p T a2) ∧ (fQ h0 h ∧ b20 h))) (m := (fun (s : Int × AH) => jt2 s fun a2 h => (p + 1 - a2).toNat)) ?_ ?_
  · intro s hs
    obtain ⟨a2, h⟩ := s
    dsimp only [Sum.elim_inl, Sum.elim_inr, jt2, jt3, jt4, jt5, jt6, jt7, jt8] at hs
    obtain ⟨q0, q1, fr⟩ := hs
    unfold gX14_reckon_b15
    refine OK_jt2 ?_
    have p12 := tq.1.1.1
    have a0 := akM_0 q1.1
    have e2 : ((a2.toNat : Nat) : Int) = a2 := by omega
    refine OK_if (fun c1 => ?_) (fun c1 => ?_)
    · skip
      try simp (disch := omega) only [jst_eq, jst_ne, jst_ni, jI_i, jcmp_lt, jcmp_gt, w32_id, jcpy_out, Sum.elim_inl, Sum.elim_inr, jt2, jt3, jt4, jt5, jt6, jt7, jt8] at c1
      refine OK_ir ?_
      try dsimp only [Sum.elim_inl, Sum.elim_inr, jt2, jt3, jt4, jt5, jt6, jt7, jt8]
      refine ⟨?_, ?_⟩
      · (rw [show ((p : Nat) : Int) + 1 = a2 by omega]; exact q1) -- o1 e1.1
      · exact fr -- o2 e1.2
    · skip
      try simp (disch := omega) only [jst_eq, jst_ne, jst_ni, jI_i, jcmp_lt, jcmp_gt, w32_id, jcpy_out, Sum.elim_inl, Sum.elim_inr, jt2, jt3, jt4, jt5, jt6, jt7, jt8] at c1
      have TQn : tqM E W K p a2.toNat := ⟨TQ_le tq.1 ⟨a0.1.2.1.2.1, wOK_ty a0.1.2.2.1⟩ (by omega) (by omega), tq.2⟩
      refine OK_jb (vX14_reckon_l22 (E := E) (Rf := Rf) (W := W) (K := K) (tp := tp) (p := p) (T := T) (n := a2.toNat) _ _ _ (by (rw [e2]; exact q1)) (by omega) (by rfl)) (fun o9 r1 => ?_)
      try dsimp only [Sum.elim_inl, Sum.elim_inr, jt2, jt3, jt4, jt5, jt6, jt7, jt8] at r1
      obtain ⟨ms1, fs1⟩ := r1
      try simp (disch := omega) only [jst_eq, jst_ne, jst_ni, jI_i, jcmp_lt, jcmp_gt, w32_id, jcpy_out, Sum.elim_inl, Sum.elim_inr, jt2, jt3, jt4, jt5, jt6, jt7, jt8] at ms1
      try simp (disch := omega) only [jst_eq, jst_ne, jst_ni, jI_i, jcmp_lt, jcmp_gt, w32_id, jcpy_out, Sum.elim_inl, Sum.elim_inr, jt2, jt3, jt4, jt5, jt6, jt7, jt8] at fs1
      refine OK_jb (vX14_reckon_l47 (E := E) (Rf := Rf) (W := W) (K := K) (tp := tp) (p := p) (T := T) (n := a2.toNat) _ _ _ (by exact ms1) (by exact TQn) (by omega) (by rfl)) (fun o11 r2 => ?_)
      try dsimp only [Sum.elim_inl, Sum.elim_inr, jt2, jt3, jt4, jt5, jt6, jt7, jt8] at r2
      obtain ⟨ms2, fs2⟩ := r2
      try simp (disch := omega) only [jst_eq, jst_ne, jst_ni, jI_i, jcmp_lt, jcmp_gt, w32_id, jcpy_out, Sum.elim_inl, Sum.elim_inr, jt2, jt3, jt4, jt5, jt6, jt7, jt8] at ms2
      try simp (disch := omega) only [jst_eq, jst_ne, jst_ni, jI_i, jcmp_lt, jcmp_gt, w32_id, jcpy_out, Sum.elim_inl, Sum.elim_inr, jt2, jt3, jt4, jt5, jt6, jt7, jt8] at fs2
      unfold gX14_reckon_j85_15
      refine OK_jb (vX14_reckon_l87 (E := E) (Rf := Rf) (W := W) (K := K) (tp := tp) (p := p) (T := T) (n := a2.toNat) _ _ _ (by exact ms2) (by exact TQn) (by omega) (by rfl)) (fun o13 r3 => ?_)
      try dsimp only [Sum.elim_inl, Sum.elim_inr, jt2, jt3, jt4, jt5, jt6, jt7, jt8] at r3
      obtain ⟨ms3, fs3⟩ := r3
      try simp (disch := omega) only [jst_eq, jst_ne, jst_ni, jI_i, jcmp_lt, jcmp_gt, w32_id, jcpy_out, Sum.elim_inl, Sum.elim_inr, jt2, jt3, jt4, jt5, jt6, jt7, jt8] at ms3
      try simp (disch := omega) only [jst_eq, jst_ne, jst_ni, jI_i, jcmp_lt, jcmp_gt, w32_id, jcpy_out, Sum.elim_inl, Sum.elim_inr, jt2, jt3, jt4, jt5, jt6, jt7, jt8] at fs3
      refine OK_jlx (fun x15 ex15 => ?_)
      try simp (disch := omega) only [jst_eq, jst_ne, jst_ni, jI_i, jcmp_lt, jcmp_gt, w32_id, jcpy_out, Sum.elim_inl, Sum.elim_inr, jt2, jt3, jt4, jt5, jt6, jt7, jt8] at ex15
      refine OK_il ?_ ?_
      · try dsimp only [Sum.elim_inl, Sum.elim_inr, jt2, jt3, jt4, jt5, jt6, jt7, jt8]
        refine ⟨?_, ?_, ?_⟩
        · (first | assumption | omega | ((try dsimp only [jt2, jt3, jt4]); first | omega | (simp (disch := omega) only [jst_eq, jst_ne, jst_ni, jst_o, jI_i, jcpy_out, w32_id, jdiv_nn, jshr_k, jand_255] <;> first | done | omega | assumption)) | (intros; simp (disch := omega) only [jst_eq, jst_ne, jst_ni, jst_o, jI_i, jcpy_out, w32_id, jdiv_nn, *] <;> first | done | omega) | (intros; simp (disch := omega) only [jst_eq, jst_ne, jst_ni, jst_o, jI_i, jcpy_out, w32_id, jdiv_nn] at * <;> first | done | omega | assumption) | (intros; first | rfl | (exfalso; omega) | ((repeat' apply And.intro) <;> first | assumption | rfl | omega | trivial))) -- o14 e2i.1
        · (have M := MR_S TQn ms3; rw [show x15 = ((a2.toNat : Nat) : Int) + 1 by omega]; exact M) -- o15 e2i.2
        · exact ⟨fQ_t fr.1 (fQ_t fs1.1 (fQ_t fs2.1 fs3.1)), fs3.2⟩ -- o16 e2i.3
      · (first | assumption | omega | ((try dsimp only [jt2, jt3, jt4]); first | omega | (simp (disch := omega) only [jst_eq, jst_ne, jst_ni, jst_o, jI_i, jcpy_out, w32_id, jdiv_nn, jshr_k, jand_255] <;> first | done | omega | assumption)) | (intros; simp (disch := omega) only [jst_eq, jst_ne, jst_ni, jst_o, jI_i, jcpy_out, w32_id, jdiv_nn, *] <;> first | done | omega) | (intros; simp (disch := omega) only [jst_eq, jst_ne, jst_ni, jst_o, jI_i, jcpy_out, w32_id, jdiv_nn] at * <;> first | done | omega | assumption) | (intros; first | rfl | (exfalso; omega) | ((repeat' apply And.intro) <;> first | assumption | rfl | omega | trivial))) -- o17 e2m
  · try dsimp only [Sum.elim_inl, Sum.elim_inr, jt2, jt3, jt4, jt5, jt6, jt7, jt8]
    refine ⟨?_, ?_, ?_⟩
    · (first | assumption | omega | ((try dsimp only [jt2, jt3, jt4]); first | omega | (simp (disch := omega) only [jst_eq, jst_ne, jst_ni, jst_o, jI_i, jcpy_out, w32_id, jdiv_nn, jshr_k, jand_255] <;> first | done | omega | assumption)) | (intros; simp (disch := omega) only [jst_eq, jst_ne, jst_ni, jst_o, jI_i, jcpy_out, w32_id, jdiv_nn, *] <;> first | done | omega) | (intros; simp (disch := omega) only [jst_eq, jst_ne, jst_ni, jst_o, jI_i, jcpy_out, w32_id, jdiv_nn] at * <;> first | done | omega | assumption) | (intros; first | rfl | (exfalso; omega) | ((repeat' apply And.intro) <;> first | assumption | rfl | omega | trivial))) -- o18 init.1
    · (rw [z]; exact mr) -- o19 init.2
    · exact ⟨fQ_r _, mr.1.2.2⟩ -- o20 init.3
def fK (h h' : AH) : Prop := ∀ a s, ¬ (a = 454 ∧ (s = 20 ∨ s = 44)) → ¬ (754 = a ∧ 0 ≤ s) → ¬ (756 ≤ a ∧ a ≤ 768 ∧ 0 ≤ s) → ¬ (786 ≤ a ∧ a ≤ 789 ∧ 0 ≤ s) → h' a s = h a s
theorem fK_A {h h' : AH} (f : fK h h') : agN h h' ∧ agT h h' := ⟨fun a s y => by unfold mA at y; exact f a s (by omega) (by omega) (by omega) (by omega), fun a s y => by unfold tA at y; exact f a s (by omega) (by omega) (by omega) (by omega)⟩
theorem tqM_of {h : AH} {E : EV} {Rf : Int → TR} {W : Int → Int → Int → VW} {K : AK} {tp : Int} {p : Nat} {T : TB} (ak : akM h E Rf W K tp) (xt : MT h E W K tp p T) (l : lvK E W (kP K) (kA K) p) (p1 : 1 ≤ p ∧ p ≤ 12) : tqM E W K p p := by
  have g := xt.2.2.2.2.2.2.1
  exact ⟨⟨akM_CQ ak l p1, extT_r _, xt.2.2.2.2.2.1, fun a a0 a1 => by have := g.2.1 a a0 a1; omega⟩, g.2.2.2.1, xt.2.2.2.2.1⟩
theorem vX14_reckon (a1 : Int) {h : AH} {E : EV} {Rf : Int → TR} {W : Int → Int → Int → VW} {K : AK} {tp : Int} {p : Nat} {T : TB} (ak : akM h E Rf W K tp) (xt : MT h E W K tp p T) (tq : tqM E W K p p) (ln : lnC h) (k : a1 = p) : OK (gX14_reckon a1 h) (fun h' => (MR h' E Rf W K tp p T ((p : Int) + 1)) ∧ (fK h h' ∧ b20 h')) := by
  unfold gX14_reckon
  refine OK_jb (vUp (E := E) (W := W) (K := K) (tp := tp) (p := p) (T := T) _ (by exact xt) (by exact k)) (fun v2 r1 => ?_)
  try dsimp only [Sum.elim_inl, Sum.elim_inr, jt2, jt3, jt4, jt5, jt6, jt7, jt8] at r1
  have ut1 := r1
  clear r1
  try simp (disch := omega) only [jst_eq, jst_ne, jst_ni, jI_i, jcmp_lt, jcmp_gt, w32_id, jcpy_out, Sum.elim_inl, Sum.elim_inr, jt2, jt3, jt4, jt5, jt6, jt7, jt8] at ut1
  have V2 : v2 = (LV E W (kP K) (kA K) p).1 := by first | exact ut1 | assumption
  subst V2
  refine OK_jl ?_
  have F3 : ∀ a s, ¬ (a = 454 ∧ s = 44) → jst h 454 44 (LV E W (kP K) (kA K) p).1 a s = h a s := fun a s y => jst_o y
  have K3 : jst h 454 44 (LV E W (kP K) (kA K) p).1 454 44 = (LV E W (kP K) (kA K) p).1 := jst_eq
  generalize e3 : jst h 454 44 (LV E W (kP K) (kA K) p).1 = hq at *
  have FK3 : fK h hq := fun a s y1 _ _ _ => F3 a s (by omega)
  have ak3 := akM_n ak (fK_A FK3).1 ⟨by rw [F3 _ _ (by omega)]; exact ak.2.1, by unfold b20; rw [F3 _ _ (by omega)]; exact ak.2.2⟩
  have xt3 := MT_g xt (akM_0 ak).2.2.1.2 (fK_A FK3).2
  have l0 := LV_0 (E := E) (W := W) (pts := kP K) (A := kA K) p
  refine OK_jb (vX14_startAnew (E := E) (W := W) (pts := kP K) (L := LV E W (kP K) (kA K) p) (by (unfold lnC; rw [F3 _ _ (by omega), F3 _ _ (by omega), F3 _ _ (by omega), F3 _ _ (by omega)]; exact ln)) (by exact ⟨(akM_0 ak3).1.1, K3, l0, tq.2.2⟩) (by exact fun a a0 a1 => by (have e := (xt3.2.2.1.2 a a0 a1).1; have l := xt3.2.2.1.1; rw [← e]; exact ⟨(xt3.1.2.1.2.2.2.2.2.2 a a0 (by omega)).1, (xt3.1.2.2.2 a a0 (by omega)).1⟩))) (fun h5 r2 => ?_)
  try dsimp only [Sum.elim_inl, Sum.elim_inr, jt2, jt3, jt4, jt5, jt6, jt7, jt8] at r2
  obtain ⟨cm2, fr2⟩ := r2
  try simp (disch := omega) only [jst_eq, jst_ne, jst_ni, jI_i, jcmp_lt, jcmp_gt, w32_id, jcpy_out, Sum.elim_inl, Sum.elim_inr, jt2, jt3, jt4, jt5, jt6, jt7, jt8] at cm2
  try simp (disch := omega) only [jst_eq, jst_ne, jst_ni, jI_i, jcmp_lt, jcmp_gt, w32_id, jcpy_out, Sum.elim_inl, Sum.elim_inr, jt2, jt3, jt4, jt5, jt6, jt7, jt8] at fr2
  have FK5 : fK h h5 := fun a s y1 y2 y3 y4 => by { rw [fr2 a s (by omega)]; exact FK3 a s y1 y2 y3 y4 }
  have ak5 := akM_n ak (fK_A FK5).1 ⟨by rw [fr2 _ _ (by omega), F3 _ _ (by omega)]; exact ak.2.1, by unfold b20; rw [fr2 _ _ (by omega), F3 _ _ (by omega)]; exact ak.2.2⟩
  have xt5 := MT_g xt (akM_0 ak).2.2.1.2 (fK_A FK5).2
  refine OK_jb (vX14_reckon_l15 (E := E) (Rf := Rf) (W := W) (K := K) (tp := tp) (p := p) (T := T) _ _ (by exact ⟨ak5, xt5, cm2, fun i f a b c d => by omega⟩) (by exact tq) (by exact k) (by rfl)) (fun o6 r3 => ?_)
  try dsimp only [Sum.elim_inl, Sum.elim_inr, jt2, jt3, jt4, jt5, jt6, jt7, jt8] at r3
  obtain ⟨mr3, fs3⟩ := r3
  try simp (disch := omega) only [jst_eq, jst_ne, jst_ni, jI_i, jcmp_lt, jcmp_gt, w32_id, jcpy_out, Sum.elim_inl, Sum.elim_inr, jt2, jt3, jt4, jt5, jt6, jt7, jt8] at mr3
  try simp (disch := omega) only [jst_eq, jst_ne, jst_ni, jI_i, jcmp_lt, jcmp_gt, w32_id, jcpy_out, Sum.elim_inl, Sum.elim_inr, jt2, jt3, jt4, jt5, jt6, jt7, jt8] at fs3
  refine OK_some ?_
  try dsimp only [Sum.elim_inl, Sum.elim_inr, jt2, jt3, jt4, jt5, jt6, jt7, jt8]
  try dsimp only [Sum.elim_inl, Sum.elim_inr, jt2, jt3, jt4, jt5, jt6, jt7, jt8]
  refine ⟨?_, ?_⟩
  · exact mr3 -- o10 e1.1
  · exact ⟨fun a s y1 y2 y3 y4 => by (rw [fs3.1 a s (by omega) (by omega) y3 (by omega)]; exact FK5 a s y1 y2 y3 y4), fs3.2⟩ -- o11 e1.2
/-- m's rows of weights -/
def lnW (h : AH) : Prop := ∀ i, 0 ≤ i → i < 16 → h 769 i = 770 + i ∧ h (770 + i) (-2) = 102 ∧ h (770 + i) (-1) = 122
noncomputable def mW (E : EV) (W : Int → Int → Int → VW) (K : AK) (p : Nat) (f : Int) : Int := cif (MKT E W K p f) 1 0
theorem mW_ct (E : EV) (W : Int → Int → Int → VW) (K : AK) (p : Nat) (f v : Int) : mW E W K p f * v = cif (MKT E W K p f) v 0 := by
  unfold mW
  by_cases h : MKT E W K p f
  · rw [cif_y h, cif_y h, Int.one_mul]
  · rw [cif_n h, cif_n h, Int.zero_mul]
def fWr (h h' : AH) : Prop := ∀ a s, ¬ (a = 454 ∧ (s = 20 ∨ s = 21)) → ¬ (a = 770 ∧ 0 ≤ s) → h' a s = h a s
theorem vX14_weigh_j41_10 (a1 : Int) (a2 : Int) (a4 : Int) (t0 : Int) (t1 : Int) (t2 : Int) {h : AH} {E : EV} {Rf : Int → TR} {W : Int → Int → Int → VW} {K : AK} {tp : Int} {p : Nat} {T : TB} (mr : MR h E Rf W K tp p T ((p : Int) + 1)) (lw : lnW h) (k : a1 = p ∧ 1 ≤ p ∧ p ≤ 12 ∧ t0 = 770 ∧ t1 = a4 ∧ 0 ≤ a4 ∧ a4 < (LV E W (kP K) (kA K) p).1) : OK (gX14_weigh_j41_10 a1 a2 a4 t0 t1 t2 h) (Sum.elim (fun r => jt3 r fun x y h' => (x = w64 (a2 + w64 (t2 * ct E W (kP K) (kA K) p a4))) ∧ (y = a4 + 1) ∧ (h' = jst h 770 a4 t2)) (fun r => jt2 r fun w h' => (0 : Int) = 1)) := by
  have L120 := mr.2.1.2.2.2.2.1
  have w7 := lw 0 (by decide) (by decide)
  obtain ⟨k1, k2, k3, k4, k5, k6, k7⟩ := k
  subst k4
  subst k5
  have cc := mr.2.2.2 p t1 (by omega) (by omega) k6 k7
  have e7 : jst h 770 t1 t2 769 0 = 770 := by { rw [jst_o (by omega)]; exact w7.1 }
  have c7 : jst h 770 t1 t2 (756 + a1) t1 = ct E W (kP K) (kA K) p t1 := by { rw [jst_o (by omega), k1]; exact cc }
  have m7 : jst h 770 t1 t2 770 (-2) = 102 ∧ jst h 770 t1 t2 770 (-1) = 122 := by { rw [jst_o (by omega), jst_o (by omega)]; exact w7.2 }
  have wx : w32 (t1 + 1) = t1 + 1 := w32_id (by omega) (by omega)
  unfold gX14_weigh_j41_10
  refine OK_jg (by (first | ((refine ⟨by have := w7.2.1; omega, by decide, ?_⟩; rw [jI_i]; have := w7.2.2; omega)) | ((rw [e7]; refine ⟨m7.1, ?_⟩; rw [jI_i, m7.2]; omega)) | (first | assumption | omega | ((try dsimp only [jt2, jt3, jt4]); first | omega | (simp (disch := omega) only [jst_eq, jst_ne, jst_ni, jst_o, jI_i, jcpy_out, w32_id, jdiv_nn, jshr_k, jand_255] <;> first | done | omega | assumption)) | (intros; simp (disch := omega) only [jst_eq, jst_ne, jst_ni, jst_o, jI_i, jcpy_out, w32_id, jdiv_nn, *] <;> first | done | omega) | (intros; simp (disch := omega) only [jst_eq, jst_ne, jst_ni, jst_o, jI_i, jcpy_out, w32_id, jdiv_nn] at * <;> first | done | omega | assumption) | (intros; first | rfl | (exfalso; omega) | ((repeat' apply And.intro) <;> first | assumption | rfl | omega | trivial))))) ?_ -- o1
  refine OK_jl ?_
  refine OK_jg (by (first | ((refine ⟨by have := w7.2.1; omega, by decide, ?_⟩; rw [jI_i]; have := w7.2.2; omega)) | ((rw [e7]; refine ⟨m7.1, ?_⟩; rw [jI_i, m7.2]; omega)) | (first | assumption | omega | ((try dsimp only [jt2, jt3, jt4]); first | omega | (simp (disch := omega) only [jst_eq, jst_ne, jst_ni, jst_o, jI_i, jcpy_out, w32_id, jdiv_nn, jshr_k, jand_255] <;> first | done | omega | assumption)) | (intros; simp (disch := omega) only [jst_eq, jst_ne, jst_ni, jst_o, jI_i, jcpy_out, w32_id, jdiv_nn, *] <;> first | done | omega) | (intros; simp (disch := omega) only [jst_eq, jst_ne, jst_ni, jst_o, jI_i, jcpy_out, w32_id, jdiv_nn] at * <;> first | done | omega | assumption) | (intros; first | rfl | (exfalso; omega) | ((repeat' apply And.intro) <;> first | assumption | rfl | omega | trivial))))) ?_ -- o2
  refine OK_jg (by (first | ((refine ⟨by have := w7.2.1; omega, by decide, ?_⟩; rw [jI_i]; have := w7.2.2; omega)) | ((rw [e7]; refine ⟨m7.1, ?_⟩; rw [jI_i, m7.2]; omega)) | (first | assumption | omega | ((try dsimp only [jt2, jt3, jt4]); first | omega | (simp (disch := omega) only [jst_eq, jst_ne, jst_ni, jst_o, jI_i, jcpy_out, w32_id, jdiv_nn, jshr_k, jand_255] <;> first | done | omega | assumption)) | (intros; simp (disch := omega) only [jst_eq, jst_ne, jst_ni, jst_o, jI_i, jcpy_out, w32_id, jdiv_nn, *] <;> first | done | omega) | (intros; simp (disch := omega) only [jst_eq, jst_ne, jst_ni, jst_o, jI_i, jcpy_out, w32_id, jdiv_nn] at * <;> first | done | omega | assumption) | (intros; first | rfl | (exfalso; omega) | ((repeat' apply And.intro) <;> first | assumption | rfl | omega | trivial))))) ?_ -- o3
  refine OK_jg (by (first | ((refine ⟨by have := w7.2.1; omega, by decide, ?_⟩; rw [jI_i]; have := w7.2.2; omega)) | ((rw [e7]; refine ⟨m7.1, ?_⟩; rw [jI_i, m7.2]; omega)) | (first | assumption | omega | ((try dsimp only [jt2, jt3, jt4]); first | omega | (simp (disch := omega) only [jst_eq, jst_ne, jst_ni, jst_o, jI_i, jcpy_out, w32_id, jdiv_nn, jshr_k, jand_255] <;> first | done | omega | assumption)) | (intros; simp (disch := omega) only [jst_eq, jst_ne, jst_ni, jst_o, jI_i, jcpy_out, w32_id, jdiv_nn, *] <;> first | done | omega) | (intros; simp (disch := omega) only [jst_eq, jst_ne, jst_ni, jst_o, jI_i, jcpy_out, w32_id, jdiv_nn] at * <;> first | done | omega | assumption) | (intros; first | rfl | (exfalso; omega) | ((repeat' apply And.intro) <;> first | assumption | rfl | omega | trivial))))) ?_ -- o4
  refine OK_jlx (fun x13 ex13 => ?_)
  try simp (disch := omega) only [jst_eq, jst_ne, jst_ni, jI_i, jcmp_lt, jcmp_gt, w32_id, jcpy_out, Sum.elim_inl, Sum.elim_inr, jt2, jt3, jt4, jt5, jt6, jt7, jt8] at ex13
  refine OK_jlx (fun x14 ex14 => ?_)
  try simp (disch := omega) only [jst_eq, jst_ne, jst_ni, jI_i, jcmp_lt, jcmp_gt, w32_id, jcpy_out, Sum.elim_inl, Sum.elim_inr, jt2, jt3, jt4, jt5, jt6, jt7, jt8] at ex14
  refine OK_some ?_
  try dsimp only [Sum.elim_inl, Sum.elim_inr, jt2, jt3, jt4, jt5, jt6, jt7, jt8]
  try dsimp only [Sum.elim_inl, Sum.elim_inr, jt2, jt3, jt4, jt5, jt6, jt7, jt8]
  refine ⟨?_, ?_, ?_⟩
  · (have z0 : h 769 0 = 770 := w7.1; rw [ex13, z0, jst_eq, k1, cc]) -- o5 e1.1
  · first | exact ex14.trans wx | omega -- o6 e1.2
  · rfl -- o7 e1.3
theorem vX14_weigh_l10 (i1 : Int) (a20 : Int) (a40 : Int) {h0 : AH} {E : EV} {Rf : Int → TR} {W : Int → Int → Int → VW} {K : AK} {tp : Int} {p : Nat} {T : TB} (mr : MR h0 E Rf W K tp p T ((p : Int) + 1)) (p12 : 1 ≤ p ∧ p ≤ 12) (lw : lnW h0) (k : i1 = p) (z : a20 = 0 ∧ a40 = 0) : OK (gX14_weigh_l10 i1 a20 a40 h0) (fun r => jt2 r fun v h' => (v = w64 (mtC E W K p)) ∧ (∀ f, 0 ≤ f → f < (LV E W (kP K) (kA K) p).1 → h' 770 f = mW E W K p f) ∧ (MR h' E Rf W K tp p T ((p : Int) + 1)) ∧ (fWr h0 h')) := by
  unfold gX14_weigh_l10
  refine OK_jit (I := (fun (s : Int × Int × AH) => jt3 s fun a2 a4 h => (0 ≤ a4 ∧ a4 ≤ (LV E W (kP K) (kA K) p).1) ∧ (a2 = w64 (sumN (fun f => cif (MKT E W K p f) (ct E W (kP K) (kA K) p f) 0) a4.toNat)) ∧ (∀ f, 0 ≤ f → f < a4 → h 770 f = mW E W K p f) ∧ (MR h E Rf W K tp p T ((p : Int) + 1)) ∧ (fWr h0 h))) (m := (fun (s : Int × Int × AH) => jt3 s fun a2 a4 h => ((LV E W (kP K) (kA K) p).1 - a4).toNat)) ?_ ?_
  · intro s hs
    obtain ⟨a2, a4, h⟩ := s
    dsimp only [Sum.elim_inl, Sum.elim_inr, jt2, jt3, jt4, jt5, jt6, jt7, jt8] at hs
    obtain ⟨q0, q1, q2, kh, fr⟩ := hs
    unfold gX14_weigh_b10
    refine OK_jt3 ?_
    have L120 := kh.2.1.2.2.2.2.1
    have e44 := kh.2.2.1.1
    have LW : ∀ i, 0 ≤ i → i < 16 → h 769 i = 770 + i ∧ h (770 + i) (-2) = 102 ∧ h (770 + i) (-1) = 122 := fun i a b => by { rw [fr _ _ (by omega) (by omega), fr _ _ (by omega) (by omega), fr _ _ (by omega) (by omega)]; exact lw i a b }
    have w7 := LW 0 (by decide) (by decide)
    refine OK_if (fun c1 => ?_) (fun c1 => ?_)
    · skip
      try simp (disch := omega) only [jst_eq, jst_ne, jst_ni, jI_i, jcmp_lt, jcmp_gt, w32_id, jcpy_out, Sum.elim_inl, Sum.elim_inr, jt2, jt3, jt4, jt5, jt6, jt7, jt8] at c1
      refine OK_ir ?_
      try dsimp only [Sum.elim_inl, Sum.elim_inr, jt2, jt3, jt4, jt5, jt6, jt7, jt8]
      refine ⟨?_, ?_, ?_, ?_⟩
      · (rw [q1, show a4.toNat = (LV E W (kP K) (kA K) p).1.toNat by omega]; rfl) -- o1 e1.1
      · exact fun f f0 f1 => q2 f f0 (by omega) -- o2 e1.2
      · exact kh -- o3 e1.3
      · exact fr -- o4 e1.4
    · skip
      try simp (disch := omega) only [jst_eq, jst_ne, jst_ni, jI_i, jcmp_lt, jcmp_gt, w32_id, jcpy_out, Sum.elim_inl, Sum.elim_inr, jt2, jt3, jt4, jt5, jt6, jt7, jt8] at c1
      refine OK_jb2 (vMM (E := E) (Rf := Rf) (W := W) (K := K) (tp := tp) (p := p) (T := T) _ (by exact kh.1) (by exact kh.2.1) (by exact ⟨q0.1, by omega⟩)) (fun v9 h10 r1 => ?_)
      try dsimp only [Sum.elim_inl, Sum.elim_inr, jt2, jt3, jt4, jt5, jt6, jt7, jt8] at r1
      obtain ⟨im1, xt1, fr1, ak1⟩ := r1
      try simp (disch := omega) only [jst_eq, jst_ne, jst_ni, jI_i, jcmp_lt, jcmp_gt, w32_id, jcpy_out, Sum.elim_inl, Sum.elim_inr, jt2, jt3, jt4, jt5, jt6, jt7, jt8] at im1
      try simp (disch := omega) only [jst_eq, jst_ne, jst_ni, jI_i, jcmp_lt, jcmp_gt, w32_id, jcpy_out, Sum.elim_inl, Sum.elim_inr, jt2, jt3, jt4, jt5, jt6, jt7, jt8] at xt1
      try simp (disch := omega) only [jst_eq, jst_ne, jst_ni, jI_i, jcmp_lt, jcmp_gt, w32_id, jcpy_out, Sum.elim_inl, Sum.elim_inr, jt2, jt3, jt4, jt5, jt6, jt7, jt8] at fr1
      try simp (disch := omega) only [jst_eq, jst_ne, jst_ni, jI_i, jcmp_lt, jcmp_gt, w32_id, jcpy_out, Sum.elim_inl, Sum.elim_inr, jt2, jt3, jt4, jt5, jt6, jt7, jt8] at ak1
      have MR10 : MR h10 E Rf W K tp p T ((p : Int) + 1) := ⟨ak1, xt1, cM_f kh.2.2.1 (fun a s y => fr1 a s (by omega)), fun i f a b c d => by (rw [fr1 _ _ (by omega)]; exact kh.2.2.2 i f a b c d)⟩
      have LW10 : lnW h10 := fun i a b => by { rw [fr1 _ _ (by omega), fr1 _ _ (by omega), fr1 _ _ (by omega)]; exact LW i a b }
      have MWv : (v9 = 1 ∧ mW E W K p a4 = 1) ∨ (v9 = 0 ∧ mW E W K p a4 = 0) := by { rcases im1 with u | u; { exact Or.inl ⟨u.1, cif_y u.2⟩ }; { exact Or.inr ⟨u.1, cif_n u.2⟩ } }
      have UP : ∀ w, w = mW E W K p a4 → (sumN (fun f => cif (MKT E W K p f) (ct E W (kP K) (kA K) p f) 0) (a4 + 1).toNat = sumN (fun f => cif (MKT E W K p f) (ct E W (kP K) (kA K) p f) 0) a4.toNat + w * ct E W (kP K) (kA K) p a4) ∧ (∀ f, 0 ≤ f → f < a4 + 1 → jst h10 770 a4 w 770 f = mW E W K p f) ∧ MR (jst h10 770 a4 w) E Rf W K tp p T ((p : Int) + 1) ∧ fWr h0 (jst h10 770 a4 w) := fun w e => by { have F : fWr h10 (jst h10 770 a4 w) := fun a s y1 y2 => jst_o (by omega); refine ⟨by rw [sumN_s q0.1, e, mW_ct], fun f f0 f1 => ?_, ⟨akM_n MR10.1 (fun a s y => by unfold mA at y; exact jst_o (by omega)) ⟨by rw [jst_o (by omega)]; exact MR10.1.2.1, by unfold b20; rw [jst_o (by omega)]; exact MR10.1.2.2⟩, MT_g MR10.2.1 (akM_0 MR10.1).2.2.1.2 (fun a s y => by unfold tA at y; exact jst_o (by omega)), cM_f MR10.2.2.1 (fun a s y => jst_o (by omega)), fun i f a b c d => by rw [jst_o (by omega)]; exact MR10.2.2.2 i f a b c d⟩, fun a s y1 y2 => ?_⟩; { by_cases y : f = a4; { rw [y, jst_eq, e] }; { rw [jst_o (fun z => y z.2), fr1 _ _ (by omega)]; exact q2 f f0 (by omega) } }; { rw [jst_o (by omega), fr1 _ _ (by omega)]; exact fr a s y1 y2 } }
      refine OK_if (fun c2 => ?_) (fun c2 => ?_)
      · skip
        try simp (disch := omega) only [jst_eq, jst_ne, jst_ni, jI_i, jcmp_lt, jcmp_gt, w32_id, jcpy_out, Sum.elim_inl, Sum.elim_inr, jt2, jt3, jt4, jt5, jt6, jt7, jt8] at c2
        refine OK_mono (vX14_weigh_j41_10 (E := E) (Rf := Rf) (W := W) (K := K) (tp := tp) (p := p) (T := T) _ _ _ _ _ _ (by exact MR10) (by exact LW10) (by exact ⟨k, p12.1, p12.2, w7.1, rfl, q0.1, by omega⟩)) (fun r r2 => ?_)
        rcases r with r | r
        · skip
          have r3 := r2; clear r2; dsimp only [Sum.elim_inl, Sum.elim_inr] at r3
          obtain ⟨y1, y2, y3⟩ := r
          try dsimp only [Sum.elim_inl, Sum.elim_inr, jt2, jt3, jt4, jt5, jt6, jt7, jt8] at r3
          obtain ⟨nx2, ny2, hh2⟩ := r3
          try simp (disch := omega) only [jst_eq, jst_ne, jst_ni, jI_i, jcmp_lt, jcmp_gt, w32_id, jcpy_out, Sum.elim_inl, Sum.elim_inr, jt2, jt3, jt4, jt5, jt6, jt7, jt8] at nx2
          try simp (disch := omega) only [jst_eq, jst_ne, jst_ni, jI_i, jcmp_lt, jcmp_gt, w32_id, jcpy_out, Sum.elim_inl, Sum.elim_inr, jt2, jt3, jt4, jt5, jt6, jt7, jt8] at ny2
          try simp (disch := omega) only [jst_eq, jst_ne, jst_ni, jI_i, jcmp_lt, jcmp_gt, w32_id, jcpy_out, Sum.elim_inl, Sum.elim_inr, jt2, jt3, jt4, jt5, jt6, jt7, jt8] at hh2
          try dsimp only [Sum.elim_inl, Sum.elim_inr, jt2, jt3, jt4, jt5, jt6, jt7, jt8]
          refine ⟨?_, ?_⟩
          · try dsimp only [Sum.elim_inl, Sum.elim_inr, jt2, jt3, jt4, jt5, jt6, jt7, jt8]
            refine ⟨?_, ?_, ?_, ?_, ?_⟩
            · omega -- o11 e2i.1
            · (rw [nx2, q1, w64_a, ny2, (UP 0 (by rcases MWv with u | u; { omega }; { exact u.2.symm })).1]) -- o12 e2i.2
            · (intro f f0 f1; rw [ny2] at f1; rw [hh2]; exact (UP 0 (by rcases MWv with u | u; { omega }; { exact u.2.symm })).2.1 f f0 f1) -- o13 e2i.3
            · (rw [hh2]; exact (UP 0 (by rcases MWv with u | u; { omega }; { exact u.2.symm })).2.2.1) -- o14 e2i.4
            · (rw [hh2]; exact (UP 0 (by rcases MWv with u | u; { omega }; { exact u.2.symm })).2.2.2) -- o15 e2i.5
          · (first | assumption | omega | ((try dsimp only [jt2, jt3, jt4]); first | omega | (simp (disch := omega) only [jst_eq, jst_ne, jst_ni, jst_o, jI_i, jcpy_out, w32_id, jdiv_nn, jshr_k, jand_255] <;> first | done | omega | assumption)) | (intros; simp (disch := omega) only [jst_eq, jst_ne, jst_ni, jst_o, jI_i, jcpy_out, w32_id, jdiv_nn, *] <;> first | done | omega) | (intros; simp (disch := omega) only [jst_eq, jst_ne, jst_ni, jst_o, jI_i, jcpy_out, w32_id, jdiv_nn] at * <;> first | done | omega | assumption) | (intros; first | rfl | (exfalso; omega) | ((repeat' apply And.intro) <;> first | assumption | rfl | omega | trivial))) -- o16 e2m
        · skip
          have r4 := r2; clear r2; dsimp only [Sum.elim_inl, Sum.elim_inr] at r4
          obtain ⟨y4, y5⟩ := r
          try dsimp only [Sum.elim_inl, Sum.elim_inr, jt2, jt3, jt4, jt5, jt6, jt7, jt8] at r4
          have no3 := r4
          clear r4
          try simp (disch := omega) only [jst_eq, jst_ne, jst_ni, jI_i, jcmp_lt, jcmp_gt, w32_id, jcpy_out, Sum.elim_inl, Sum.elim_inr, jt2, jt3, jt4, jt5, jt6, jt7, jt8] at no3
          try dsimp only [Sum.elim_inl, Sum.elim_inr, jt2, jt3, jt4, jt5, jt6, jt7, jt8]
          try dsimp only [Sum.elim_inl, Sum.elim_inr, jt2, jt3, jt4, jt5, jt6, jt7, jt8]
          refine ⟨?_, ?_, ?_, ?_⟩
          · (first | assumption | omega | ((try dsimp only [jt2, jt3, jt4]); first | omega | (simp (disch := omega) only [jst_eq, jst_ne, jst_ni, jst_o, jI_i, jcpy_out, w32_id, jdiv_nn, jshr_k, jand_255] <;> first | done | omega | assumption)) | (intros; simp (disch := omega) only [jst_eq, jst_ne, jst_ni, jst_o, jI_i, jcpy_out, w32_id, jdiv_nn, *] <;> first | done | omega) | (intros; simp (disch := omega) only [jst_eq, jst_ne, jst_ni, jst_o, jI_i, jcpy_out, w32_id, jdiv_nn] at * <;> first | done | omega | assumption) | (intros; first | rfl | (exfalso; omega) | ((repeat' apply And.intro) <;> first | assumption | rfl | omega | trivial))) -- o17 e3.1
          · (first | assumption | omega | ((try dsimp only [jt2, jt3, jt4]); first | omega | (simp (disch := omega) only [jst_eq, jst_ne, jst_ni, jst_o, jI_i, jcpy_out, w32_id, jdiv_nn, jshr_k, jand_255] <;> first | done | omega | assumption)) | (intros; simp (disch := omega) only [jst_eq, jst_ne, jst_ni, jst_o, jI_i, jcpy_out, w32_id, jdiv_nn, *] <;> first | done | omega) | (intros; simp (disch := omega) only [jst_eq, jst_ne, jst_ni, jst_o, jI_i, jcpy_out, w32_id, jdiv_nn] at * <;> first | done | omega | assumption) | (intros; first | rfl | (exfalso; omega) | ((repeat' apply And.intro) <;> first | assumption | rfl | omega | trivial))) -- o18 e3.2
          · (first | assumption | omega | ((try dsimp only [jt2, jt3, jt4]); first | omega | (simp (disch := omega) only [jst_eq, jst_ne, jst_ni, jst_o, jI_i, jcpy_out, w32_id, jdiv_nn, jshr_k, jand_255] <;> first | done | omega | assumption)) | (intros; simp (disch := omega) only [jst_eq, jst_ne, jst_ni, jst_o, jI_i, jcpy_out, w32_id, jdiv_nn, *] <;> first | done | omega) | (intros; simp (disch := omega) only [jst_eq, jst_ne, jst_ni, jst_o, jI_i, jcpy_out, w32_id, jdiv_nn] at * <;> first | done | omega | assumption) | (intros; first | rfl | (exfalso; omega) | ((repeat' apply And.intro) <;> first | assumption | rfl | omega | trivial))) -- o19 e3.3
          · (first | assumption | omega | ((try dsimp only [jt2, jt3, jt4]); first | omega | (simp (disch := omega) only [jst_eq, jst_ne, jst_ni, jst_o, jI_i, jcpy_out, w32_id, jdiv_nn, jshr_k, jand_255] <;> first | done | omega | assumption)) | (intros; simp (disch := omega) only [jst_eq, jst_ne, jst_ni, jst_o, jI_i, jcpy_out, w32_id, jdiv_nn, *] <;> first | done | omega) | (intros; simp (disch := omega) only [jst_eq, jst_ne, jst_ni, jst_o, jI_i, jcpy_out, w32_id, jdiv_nn] at * <;> first | done | omega | assumption) | (intros; first | rfl | (exfalso; omega) | ((repeat' apply And.intro) <;> first | assumption | rfl | omega | trivial))) -- o20 e3.4
      · skip
        try simp (disch := omega) only [jst_eq, jst_ne, jst_ni, jI_i, jcmp_lt, jcmp_gt, w32_id, jcpy_out, Sum.elim_inl, Sum.elim_inr, jt2, jt3, jt4, jt5, jt6, jt7, jt8] at c2
        refine OK_mono (vX14_weigh_j41_10 (E := E) (Rf := Rf) (W := W) (K := K) (tp := tp) (p := p) (T := T) _ _ _ _ _ _ (by exact MR10) (by exact LW10) (by exact ⟨k, p12.1, p12.2, w7.1, rfl, q0.1, by omega⟩)) (fun r r5 => ?_)
        rcases r with r | r
        · skip
          have r6 := r5; clear r5; dsimp only [Sum.elim_inl, Sum.elim_inr] at r6
          obtain ⟨y6, y7, y8⟩ := r
          try dsimp only [Sum.elim_inl, Sum.elim_inr, jt2, jt3, jt4, jt5, jt6, jt7, jt8] at r6
          obtain ⟨nx4, ny4, hh4⟩ := r6
          try simp (disch := omega) only [jst_eq, jst_ne, jst_ni, jI_i, jcmp_lt, jcmp_gt, w32_id, jcpy_out, Sum.elim_inl, Sum.elim_inr, jt2, jt3, jt4, jt5, jt6, jt7, jt8] at nx4
          try simp (disch := omega) only [jst_eq, jst_ne, jst_ni, jI_i, jcmp_lt, jcmp_gt, w32_id, jcpy_out, Sum.elim_inl, Sum.elim_inr, jt2, jt3, jt4, jt5, jt6, jt7, jt8] at ny4
          try simp (disch := omega) only [jst_eq, jst_ne, jst_ni, jI_i, jcmp_lt, jcmp_gt, w32_id, jcpy_out, Sum.elim_inl, Sum.elim_inr, jt2, jt3, jt4, jt5, jt6, jt7, jt8] at hh4
          try dsimp only [Sum.elim_inl, Sum.elim_inr, jt2, jt3, jt4, jt5, jt6, jt7, jt8]
          refine ⟨?_, ?_⟩
          · try dsimp only [Sum.elim_inl, Sum.elim_inr, jt2, jt3, jt4, jt5, jt6, jt7, jt8]
            refine ⟨?_, ?_, ?_, ?_, ?_⟩
            · omega -- o24 e4i.1
            · (rw [nx4, q1, w64_a, ny4, (UP 1 (by rcases MWv with u | u; { exact u.2.symm }; { omega })).1]) -- o25 e4i.2
            · (intro f f0 f1; rw [ny4] at f1; rw [hh4]; exact (UP 1 (by rcases MWv with u | u; { exact u.2.symm }; { omega })).2.1 f f0 f1) -- o26 e4i.3
            · (rw [hh4]; exact (UP 1 (by rcases MWv with u | u; { exact u.2.symm }; { omega })).2.2.1) -- o27 e4i.4
            · (rw [hh4]; exact (UP 1 (by rcases MWv with u | u; { exact u.2.symm }; { omega })).2.2.2) -- o28 e4i.5
          · (first | assumption | omega | ((try dsimp only [jt2, jt3, jt4]); first | omega | (simp (disch := omega) only [jst_eq, jst_ne, jst_ni, jst_o, jI_i, jcpy_out, w32_id, jdiv_nn, jshr_k, jand_255] <;> first | done | omega | assumption)) | (intros; simp (disch := omega) only [jst_eq, jst_ne, jst_ni, jst_o, jI_i, jcpy_out, w32_id, jdiv_nn, *] <;> first | done | omega) | (intros; simp (disch := omega) only [jst_eq, jst_ne, jst_ni, jst_o, jI_i, jcpy_out, w32_id, jdiv_nn] at * <;> first | done | omega | assumption) | (intros; first | rfl | (exfalso; omega) | ((repeat' apply And.intro) <;> first | assumption | rfl | omega | trivial))) -- o29 e4m
        · skip
          have r7 := r5; clear r5; dsimp only [Sum.elim_inl, Sum.elim_inr] at r7
          obtain ⟨y9, y10⟩ := r
          try dsimp only [Sum.elim_inl, Sum.elim_inr, jt2, jt3, jt4, jt5, jt6, jt7, jt8] at r7
          have no5 := r7
          clear r7
          try simp (disch := omega) only [jst_eq, jst_ne, jst_ni, jI_i, jcmp_lt, jcmp_gt, w32_id, jcpy_out, Sum.elim_inl, Sum.elim_inr, jt2, jt3, jt4, jt5, jt6, jt7, jt8] at no5
          try dsimp only [Sum.elim_inl, Sum.elim_inr, jt2, jt3, jt4, jt5, jt6, jt7, jt8]
          try dsimp only [Sum.elim_inl, Sum.elim_inr, jt2, jt3, jt4, jt5, jt6, jt7, jt8]
          refine ⟨?_, ?_, ?_, ?_⟩
          · (first | assumption | omega | ((try dsimp only [jt2, jt3, jt4]); first | omega | (simp (disch := omega) only [jst_eq, jst_ne, jst_ni, jst_o, jI_i, jcpy_out, w32_id, jdiv_nn, jshr_k, jand_255] <;> first | done | omega | assumption)) | (intros; simp (disch := omega) only [jst_eq, jst_ne, jst_ni, jst_o, jI_i, jcpy_out, w32_id, jdiv_nn, *] <;> first | done | omega) | (intros; simp (disch := omega) only [jst_eq, jst_ne, jst_ni, jst_o, jI_i, jcpy_out, w32_id, jdiv_nn] at * <;> first | done | omega | assumption) | (intros; first | rfl | (exfalso; omega) | ((repeat' apply And.intro) <;> first | assumption | rfl | omega | trivial))) -- o30 e5.1
          · (first | assumption | omega | ((try dsimp only [jt2, jt3, jt4]); first | omega | (simp (disch := omega) only [jst_eq, jst_ne, jst_ni, jst_o, jI_i, jcpy_out, w32_id, jdiv_nn, jshr_k, jand_255] <;> first | done | omega | assumption)) | (intros; simp (disch := omega) only [jst_eq, jst_ne, jst_ni, jst_o, jI_i, jcpy_out, w32_id, jdiv_nn, *] <;> first | done | omega) | (intros; simp (disch := omega) only [jst_eq, jst_ne, jst_ni, jst_o, jI_i, jcpy_out, w32_id, jdiv_nn] at * <;> first | done | omega | assumption) | (intros; first | rfl | (exfalso; omega) | ((repeat' apply And.intro) <;> first | assumption | rfl | omega | trivial))) -- o31 e5.2
          · (first | assumption | omega | ((try dsimp only [jt2, jt3, jt4]); first | omega | (simp (disch := omega) only [jst_eq, jst_ne, jst_ni, jst_o, jI_i, jcpy_out, w32_id, jdiv_nn, jshr_k, jand_255] <;> first | done | omega | assumption)) | (intros; simp (disch := omega) only [jst_eq, jst_ne, jst_ni, jst_o, jI_i, jcpy_out, w32_id, jdiv_nn, *] <;> first | done | omega) | (intros; simp (disch := omega) only [jst_eq, jst_ne, jst_ni, jst_o, jI_i, jcpy_out, w32_id, jdiv_nn] at * <;> first | done | omega | assumption) | (intros; first | rfl | (exfalso; omega) | ((repeat' apply And.intro) <;> first | assumption | rfl | omega | trivial))) -- o32 e5.3
          · (first | assumption | omega | ((try dsimp only [jt2, jt3, jt4]); first | omega | (simp (disch := omega) only [jst_eq, jst_ne, jst_ni, jst_o, jI_i, jcpy_out, w32_id, jdiv_nn, jshr_k, jand_255] <;> first | done | omega | assumption)) | (intros; simp (disch := omega) only [jst_eq, jst_ne, jst_ni, jst_o, jI_i, jcpy_out, w32_id, jdiv_nn, *] <;> first | done | omega) | (intros; simp (disch := omega) only [jst_eq, jst_ne, jst_ni, jst_o, jI_i, jcpy_out, w32_id, jdiv_nn] at * <;> first | done | omega | assumption) | (intros; first | rfl | (exfalso; omega) | ((repeat' apply And.intro) <;> first | assumption | rfl | omega | trivial))) -- o33 e5.4
  · try dsimp only [Sum.elim_inl, Sum.elim_inr, jt2, jt3, jt4, jt5, jt6, jt7, jt8]
    refine ⟨?_, ?_, ?_, ?_, ?_⟩
    · (have l := LV_0 (E := E) (W := W) (pts := kP K) (A := kA K) p; omega) -- o34 init.1
    · (rw [z.1, z.2]; first | rfl | decide) -- o35 init.2
    · (intro f f0 f1; omega) -- o36 init.3
    · exact mr -- o37 init.4
    · exact fun _ _ _ _ => rfl -- o38 init.5
theorem vX14_weigh (a1 : Int) {h : AH} {E : EV} {Rf : Int → TR} {W : Int → Int → Int → VW} {K : AK} {tp : Int} {p : Nat} {T : TB} (ak : akM h E Rf W K tp) (xt : MT h E W K tp p T) (tq : tqM E W K p p) (ln : lnC h ∧ lnW h) (k : a1 = p) : OK (gX14_weigh a1 h) (fun r => jt2 r fun v h' => (v = w64 (mtC E W K p)) ∧ (∀ f, 0 ≤ f → f < (LV E W (kP K) (kA K) p).1 → h' 770 f = mW E W K p f) ∧ (MR h' E Rf W K tp p T ((p : Int) + 1)) ∧ (∀ a s, ¬ (a = 454 ∧ (s = 20 ∨ s = 21 ∨ s = 44)) → ¬ (a = 754 ∧ 0 ≤ s) → ¬ (756 ≤ a ∧ a ≤ 789 ∧ 0 ≤ s) → h' a s = h a s)) := by
  have p12 := tq.1.1.1
  unfold gX14_weigh
  refine OK_jb (vX14_reckon (E := E) (Rf := Rf) (W := W) (K := K) (tp := tp) (p := p) (T := T) _ (by exact ak) (by exact xt) (by exact tq) (by exact ln.1) (by exact k)) (fun h2 r1 => ?_)
  try dsimp only [Sum.elim_inl, Sum.elim_inr, jt2, jt3, jt4, jt5, jt6, jt7, jt8] at r1
  obtain ⟨mr1, fs1⟩ := r1
  try simp (disch := omega) only [jst_eq, jst_ne, jst_ni, jI_i, jcmp_lt, jcmp_gt, w32_id, jcpy_out, Sum.elim_inl, Sum.elim_inr, jt2, jt3, jt4, jt5, jt6, jt7, jt8] at mr1
  try simp (disch := omega) only [jst_eq, jst_ne, jst_ni, jI_i, jcmp_lt, jcmp_gt, w32_id, jcpy_out, Sum.elim_inl, Sum.elim_inr, jt2, jt3, jt4, jt5, jt6, jt7, jt8] at fs1
  refine OK_jb (vX14_weigh_l10 (E := E) (Rf := Rf) (W := W) (K := K) (tp := tp) (p := p) (T := T) _ _ _ (by exact mr1) (by exact p12) (by exact fun i a b => by (rw [fs1.1 _ _ (by omega) (by omega) (by omega) (by omega), fs1.1 _ _ (by omega) (by omega) (by omega) (by omega), fs1.1 _ _ (by omega) (by omega) (by omega) (by omega)]; exact ln.2 i a b)) (by exact k) (by exact ⟨rfl, rfl⟩)) (fun o3 r2 => ?_)
  obtain ⟨y5, h6⟩ := o3
  refine OK_jt2 ?_
  try dsimp only [Sum.elim_inl, Sum.elim_inr, jt2, jt3, jt4, jt5, jt6, jt7, jt8] at r2
  obtain ⟨mc2, ws2, mr2, fr2⟩ := r2
  try simp (disch := omega) only [jst_eq, jst_ne, jst_ni, jI_i, jcmp_lt, jcmp_gt, w32_id, jcpy_out, Sum.elim_inl, Sum.elim_inr, jt2, jt3, jt4, jt5, jt6, jt7, jt8] at mc2
  try simp (disch := omega) only [jst_eq, jst_ne, jst_ni, jI_i, jcmp_lt, jcmp_gt, w32_id, jcpy_out, Sum.elim_inl, Sum.elim_inr, jt2, jt3, jt4, jt5, jt6, jt7, jt8] at ws2
  try simp (disch := omega) only [jst_eq, jst_ne, jst_ni, jI_i, jcmp_lt, jcmp_gt, w32_id, jcpy_out, Sum.elim_inl, Sum.elim_inr, jt2, jt3, jt4, jt5, jt6, jt7, jt8] at mr2
  try simp (disch := omega) only [jst_eq, jst_ne, jst_ni, jI_i, jcmp_lt, jcmp_gt, w32_id, jcpy_out, Sum.elim_inl, Sum.elim_inr, jt2, jt3, jt4, jt5, jt6, jt7, jt8] at fr2
  refine OK_some ?_
  try dsimp only [Sum.elim_inl, Sum.elim_inr, jt2, jt3, jt4, jt5, jt6, jt7, jt8]
  try dsimp only [Sum.elim_inl, Sum.elim_inr, jt2, jt3, jt4, jt5, jt6, jt7, jt8]
  refine ⟨?_, ?_, ?_, ?_⟩
  · exact mc2 -- o11 e1.1
  · exact ws2 -- o12 e1.2
  · exact mr2 -- o13 e1.3
  · exact fun a s y1 y2 y3 => by (rw [fr2 a s (by omega) (by omega)]; exact fs1.1 a s (by omega) (by omega) (by omega) (by omega)) -- o14 e1.4
/-- what counting leaves as it was: m -/
def fOc (h h' : AH) : Prop := ∀ a s, ¬ (a = 454 ∧ (s = 17 ∨ s = 20 ∨ s = 21 ∨ s = 22 ∨ s = 40 ∨ s = 44 ∨ s = 51)) → ¬ (460 ≤ a ∧ a ≤ 469 ∧ a ≠ 464 ∧ 8500 ≤ s ∧ s < 8800) → ¬ (a = 464 ∧ 25500 ≤ s ∧ s < 26400) → ¬ (476 ≤ a ∧ a ≤ 754 ∧ 0 ≤ s) → ¬ (756 ≤ a ∧ a ≤ 789 ∧ 0 ≤ s) → h' a s = h a s
theorem vX14_count (a1 : Int) {h : AH} {E : EV} {Rf : Int → TR} {W : Int → Int → Int → VW} {K : AK} {tp : Int} (hd : h 454 54 = 0 ∨ h 454 54 = 1) (ak : ¬ h 454 38 = 0 → asM h E Rf W K tp) (ln : lnC h ∧ lnW h) : OK (gX14_count a1 h) (fun r => jt2 r fun v h' => (ansQ E W K (¬ h 454 54 = 0) (¬ h 454 38 = 0) a1 (mtC E W K) v) ∧ (fOc h h' ∧ (¬ h 454 38 = 0 → asM h' E Rf W K tp))) := by
  unfold gX14_count
  refine OK_jb2 (vX14_refusal (E := E) (Rf := Rf) (W := W) (K := K) (tp := tp) _ (by exact hd) (by exact ak)) (fun v2 h3 r1 => ?_)
  try dsimp only [Sum.elim_inl, Sum.elim_inr, jt2, jt3, jt4, jt5, jt6, jt7, jt8] at r1
  obtain ⟨rf1, st1⟩ := r1
  try simp (disch := omega) only [jst_eq, jst_ne, jst_ni, jI_i, jcmp_lt, jcmp_gt, w32_id, jcpy_out, Sum.elim_inl, Sum.elim_inr, jt2, jt3, jt4, jt5, jt6, jt7, jt8] at rf1
  try simp (disch := omega) only [jst_eq, jst_ne, jst_ni, jI_i, jcmp_lt, jcmp_gt, w32_id, jcpy_out, Sum.elim_inl, Sum.elim_inr, jt2, jt3, jt4, jt5, jt6, jt7, jt8] at st1
  obtain ⟨s1, s2, s3⟩ := st1
  refine OK_if (fun c1 => ?_) (fun c1 => ?_)
  · skip
    try simp (disch := omega) only [jst_eq, jst_ne, jst_ni, jI_i, jcmp_lt, jcmp_gt, w32_id, jcpy_out, Sum.elim_inl, Sum.elim_inr, jt2, jt3, jt4, jt5, jt6, jt7, jt8] at c1
    have v0 : v2 = 0 := by { unfold rfs at rf1; omega }
    obtain ⟨T, xt⟩ := s3 v0
    have rr : ¬ ¬ h 454 54 = 0 ∧ (1 ≤ a1 ∧ a1 ≤ 12) ∧ (¬ h 454 38 = 0) ∧ lvK E W (kP K) (kA K) a1.toNat := by { rcases rf1 with r | r | r | r | r; { omega }; { omega }; { omega }; { omega }; { exact ⟨r.1, r.2.1, r.2.2.1, r.2.2.2.1⟩ } }
    have AS := s2 rr.2.2.1
    have ep : ((a1.toNat : Nat) : Int) = a1 := by omega
    have TQ := tqM_of AS.1 xt rr.2.2.2 ⟨by omega, by omega⟩
    refine OK_jb2 (vX14_weigh (E := E) (Rf := Rf) (W := W) (K := K) (tp := tp) (p := a1.toNat) (T := T) _ (by exact AS.1) (by exact xt) (by exact TQ) (by exact ⟨by (unfold lnC; rw [s1 _ _ (by omega) (by omega) (by omega) (by omega) (by omega), s1 _ _ (by omega) (by omega) (by omega) (by omega) (by omega), s1 _ _ (by omega) (by omega) (by omega) (by omega) (by omega), s1 _ _ (by omega) (by omega) (by omega) (by omega) (by omega)]; exact ln.1), fun i a b => by (rw [s1 _ _ (by omega) (by omega) (by omega) (by omega) (by omega), s1 _ _ (by omega) (by omega) (by omega) (by omega) (by omega), s1 _ _ (by omega) (by omega) (by omega) (by omega) (by omega)]; exact ln.2 i a b)⟩) (by exact ep.symm)) (fun v6 h7 r2 => ?_)
    try dsimp only [Sum.elim_inl, Sum.elim_inr, jt2, jt3, jt4, jt5, jt6, jt7, jt8] at r2
    obtain ⟨mc2, ws2, mr2, fr2⟩ := r2
    try simp (disch := omega) only [jst_eq, jst_ne, jst_ni, jI_i, jcmp_lt, jcmp_gt, w32_id, jcpy_out, Sum.elim_inl, Sum.elim_inr, jt2, jt3, jt4, jt5, jt6, jt7, jt8] at mc2
    try simp (disch := omega) only [jst_eq, jst_ne, jst_ni, jI_i, jcmp_lt, jcmp_gt, w32_id, jcpy_out, Sum.elim_inl, Sum.elim_inr, jt2, jt3, jt4, jt5, jt6, jt7, jt8] at ws2
    try simp (disch := omega) only [jst_eq, jst_ne, jst_ni, jI_i, jcmp_lt, jcmp_gt, w32_id, jcpy_out, Sum.elim_inl, Sum.elim_inr, jt2, jt3, jt4, jt5, jt6, jt7, jt8] at mr2
    try simp (disch := omega) only [jst_eq, jst_ne, jst_ni, jI_i, jcmp_lt, jcmp_gt, w32_id, jcpy_out, Sum.elim_inl, Sum.elim_inr, jt2, jt3, jt4, jt5, jt6, jt7, jt8] at fr2
    have mb := mtC_b (K := K) TQ.1.1
    have T7 : agT h3 h7 := fun a s y => by { unfold tA at y; exact fr2 a s (by omega) (by omega) (by omega) }
    refine OK_some ?_
    try dsimp only [Sum.elim_inl, Sum.elim_inr, jt2, jt3, jt4, jt5, jt6, jt7, jt8]
    try dsimp only [Sum.elim_inl, Sum.elim_inr, jt2, jt3, jt4, jt5, jt6, jt7, jt8]
    refine ⟨?_, ?_⟩
    · exact ⟨v2, rf1, by (rw [if_pos c1, mc2, w64_id (by omega) (by omega)])⟩ -- o8 e1.1
    · exact ⟨fun a s y1 y2 y3 y4 y5 => by (rw [fr2 a s (by omega) (by omega) (by omega)]; exact s1 a s (by omega) y2 y3 (by omega) (by omega)), fun _ => asM_y AS T7 mr2.1⟩ -- o9 e1.2
  · skip
    try simp (disch := omega) only [jst_eq, jst_ne, jst_ni, jI_i, jcmp_lt, jcmp_gt, w32_id, jcpy_out, Sum.elim_inl, Sum.elim_inr, jt2, jt3, jt4, jt5, jt6, jt7, jt8] at c1
    refine OK_some ?_
    try dsimp only [Sum.elim_inl, Sum.elim_inr, jt2, jt3, jt4, jt5, jt6, jt7, jt8]
    try dsimp only [Sum.elim_inl, Sum.elim_inr, jt2, jt3, jt4, jt5, jt6, jt7, jt8]
    refine ⟨?_, ?_⟩
    · exact ⟨v2, rf1, by (rw [if_neg c1])⟩ -- o10 e2.1
    · exact ⟨fun a s y1 y2 y3 y4 y5 => s1 a s (by omega) y2 y3 (by omega) (by omega), s2⟩ -- o11 e2.2

