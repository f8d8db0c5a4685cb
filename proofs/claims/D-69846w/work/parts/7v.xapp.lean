/-! x: a program is applied to a word -/
def omapA (o : List Int) : Option (List Int) → Option (List Int)
  | none => none
  | some r => some (o ++ r)
def ap1 (f : Int → Int) (n : Int) (it : Int × Int) : Option (List Int) := if it.1 = 0 then some (lts 9 it.2) else if spP f n ((it.1 - 1) / 200) < 0 then none else if spP f n ((it.1 - 1) / 200) < spP f n ((it.1 - 1) % 200) then some (nml (fun k => f (spP f n ((it.1 - 1) / 200) + k) + 97) (spP f n ((it.1 - 1) % 200) - spP f n ((it.1 - 1) / 200)).toNat) else none
def apL (f : Int → Int) (n : Int) : List (Int × Int) → Option (List Int)
  | [] => some []
  | it :: l => match ap1 f n it with
    | none => none
    | some o => omapA o (apL f n l)
theorem apL_n {f : Int → Int} {n : Int} {it : Int × Int} {l : List (Int × Int)} (h : ap1 f n it = none) : apL f n (it :: l) = none := by
  unfold apL
  rw [h]
theorem apL_s {f : Int → Int} {n : Int} {it : Int × Int} {l : List (Int × Int)} {o : List Int} (h : ap1 f n it = some o) : apL f n (it :: l) = omapA o (apL f n l) := by
  show (match ap1 f n it with | none => none | some o => omapA o (apL f n l)) = _
  rw [h]
theorem omapA_a (o p : List Int) (r : Option (List Int)) : omapA o (omapA p r) = omapA (o ++ p) r := by
  cases r with
  | none => rfl
  | some r => show some (o ++ (p ++ r)) = some (o ++ p ++ r); rw [List.append_assoc]
/-- parts as they may be -/
def itO (it : Int × Int) : Prop := (it.1 = 0 ∧ 0 ≤ it.2 ∧ it.2 ≤ 19682) ∨ (∃ a b : Int, (0 ≤ a ∧ a < 178) ∧ (0 ≤ b ∧ b < 178) ∧ it = (1 + 200 * a + b, 0))
theorem ap1_l {f : Int → Int} {n : Int} {it : Int × Int} {o : List Int} (n0 : 0 ≤ n ∧ n ≤ 10) (w : itO it) (h : ap1 f n it = some o) : o.length ≤ 10 := by
  unfold ap1 at h
  by_cases y : it.1 = 0
  · rw [if_pos y] at h
    cases h
    have := lts_len 9 it.2
    omega
  · rw [if_neg y] at h
    have hb : 0 ≤ (it.1 - 1) % 200 := Int.emod_nonneg _ (by decide)
    have hs := spP_b (f := f) n0.1 hb
    by_cases z : spP f n ((it.1 - 1) / 200) < 0
    · rw [if_pos z] at h; cases h
    · rw [if_neg z] at h
      by_cases q : spP f n ((it.1 - 1) / 200) < spP f n ((it.1 - 1) % 200)
      · rw [if_pos q] at h
        cases h
        rw [nml_l]
        omega
      · rw [if_neg q] at h; cases h
theorem vX9_apply_l91 (i2 : Int) (i4 : Int) (i6 : Int) (a70 : Int) {h0 : AH} {f : Int → Int} (hf : ∀ k, a70 ≤ k → k < i6 → h0 440 k = f k + 97 ∧ 0 ≤ f k ∧ f k < 26) (hb : 0 ≤ a70 ∧ a70 < i6 ∧ i6 ≤ 10) (hc : 0 ≤ h0 452 1 ∧ h0 452 1 + (i6 - a70) ≤ h0 453 (-1) ∧ h0 453 (-1) ≤ 100000) : OK (gX9_apply_l91 i2 i4 i6 a70 h0) (fun h' => apB 452 1 453 (nml (fun k => f (a70 + k) + 97) (i6 - a70).toNat) h0 h') := by
  unfold gX9_apply_l91
  refine OK_jit (I := (fun (s : Int × AH) => jt2 s fun a7 h => (a70 ≤ a7 ∧ a7 ≤ i6) ∧ (apB 452 1 453 (nml (fun k => f (a70 + k) + 97) (a7 - a70).toNat) h0 h))) (m := (fun (s : Int × AH) => jt2 s fun a7 h => (i6 - a7).toNat)) ?_ ?_
  · intro s hs
    obtain ⟨a7, h⟩ := s
    dsimp only [Sum.elim_inl, Sum.elim_inr, jt2, jt3, jt4, jt5, jt6, jt7, jt8] at hs
    obtain ⟨q0, q1⟩ := hs
    unfold gX9_apply_b91
    refine OK_jt2 ?_
    have L := nml_l (fun k => f (a70 + k) + 97) (a7 - a70).toNat
    have A1 := q1.1
    have A2 := q1.2.2 453 (-1) (by omega) (by omega)
    have A3 : h 440 a7 = h0 440 a7 := q1.2.2 440 a7 (by omega) (by omega)
    refine OK_if (fun c1 => ?_) (fun c1 => ?_)
    · skip
      try simp (disch := omega) only [jst_eq, jst_ne, jst_ni, jI_i, jcmp_lt, jcmp_gt, w32_id, jcpy_out, Sum.elim_inl, Sum.elim_inr, jt2, jt3, jt4, jt5, jt6, jt7, jt8] at c1
      refine OK_ir ?_
      (rw [show (i6 - a70).toNat = (a7 - a70).toNat by omega]; exact q1) -- o1 e1
    · skip
      try simp (disch := omega) only [jst_eq, jst_ne, jst_ni, jI_i, jcmp_lt, jcmp_gt, w32_id, jcpy_out, Sum.elim_inl, Sum.elim_inr, jt2, jt3, jt4, jt5, jt6, jt7, jt8] at c1
      have HF := hf a7 q0.1 (by omega)
      refine OK_jg (by (first | assumption | omega | ((try dsimp only [jt2, jt3, jt4]); first | omega | (simp (disch := omega) only [jst_eq, jst_ne, jst_ni, jst_o, jI_i, jcpy_out, w32_id, jdiv_nn, jshr_k, jand_255] <;> first | done | omega | assumption)) | (intros; simp (disch := omega) only [jst_eq, jst_ne, jst_ni, jst_o, jI_i, jcpy_out, w32_id, jdiv_nn, *] <;> first | done | omega) | (intros; simp (disch := omega) only [jst_eq, jst_ne, jst_ni, jst_o, jI_i, jcpy_out, w32_id, jdiv_nn] at * <;> first | done | omega | assumption) | (intros; first | rfl | (exfalso; omega) | ((repeat' apply And.intro) <;> first | assumption | rfl | omega | trivial)))) ?_ -- o2
      refine OK_jb (vX6_put _ _ (by (show 0 ≤ h 452 1 ∧ h 452 1 < h 453 (-1) ∧ h 453 (-1) ≤ 100000; rw [A2, A1]; omega)) (by (rw [A3]; omega))) (fun h21 r1 => ?_)
      try dsimp only [Sum.elim_inl, Sum.elim_inr, jt2, jt3, jt4, jt5, jt6, jt7, jt8] at r1
      have ab1 := r1
      clear r1
      try simp (disch := omega) only [jst_eq, jst_ne, jst_ni, jI_i, jcmp_lt, jcmp_gt, w32_id, jcpy_out, Sum.elim_inl, Sum.elim_inr, jt2, jt3, jt4, jt5, jt6, jt7, jt8] at ab1
      refine OK_jlx (fun x22 ex22 => ?_)
      try simp (disch := omega) only [jst_eq, jst_ne, jst_ni, jI_i, jcmp_lt, jcmp_gt, w32_id, jcpy_out, Sum.elim_inl, Sum.elim_inr, jt2, jt3, jt4, jt5, jt6, jt7, jt8] at ex22
      refine OK_il ?_ ?_
      · try dsimp only [Sum.elim_inl, Sum.elim_inr, jt2, jt3, jt4, jt5, jt6, jt7, jt8]
        refine ⟨?_, ?_⟩
        · (first | assumption | omega | ((try dsimp only [jt2, jt3, jt4]); first | omega | (simp (disch := omega) only [jst_eq, jst_ne, jst_ni, jst_o, jI_i, jcpy_out, w32_id, jdiv_nn, jshr_k, jand_255] <;> first | done | omega | assumption)) | (intros; simp (disch := omega) only [jst_eq, jst_ne, jst_ni, jst_o, jI_i, jcpy_out, w32_id, jdiv_nn, *] <;> first | done | omega) | (intros; simp (disch := omega) only [jst_eq, jst_ne, jst_ni, jst_o, jI_i, jcpy_out, w32_id, jdiv_nn] at * <;> first | done | omega | assumption) | (intros; first | rfl | (exfalso; omega) | ((repeat' apply And.intro) <;> first | assumption | rfl | omega | trivial))) -- o5 e2i.1
        · (rw [show (x22 - a70).toNat = (a7 - a70).toNat + 1 by omega, nml_s]; refine apB_app (by decide) q1 ?_; have e9 : h 440 a7 = f (a70 + (((a7 - a70).toNat : Nat) : Int)) + 97 := (by rw [show a70 + (((a7 - a70).toNat : Nat) : Int) = a7 by omega, A3]; exact HF.1); show apB 452 1 453 [f (a70 + (((a7 - a70).toNat : Nat) : Int)) + 97] h h21; rw [← e9]; exact ab1) -- o6 e2i.2
      · (first | assumption | omega | ((try dsimp only [jt2, jt3, jt4]); first | omega | (simp (disch := omega) only [jst_eq, jst_ne, jst_ni, jst_o, jI_i, jcpy_out, w32_id, jdiv_nn, jshr_k, jand_255] <;> first | done | omega | assumption)) | (intros; simp (disch := omega) only [jst_eq, jst_ne, jst_ni, jst_o, jI_i, jcpy_out, w32_id, jdiv_nn, *] <;> first | done | omega) | (intros; simp (disch := omega) only [jst_eq, jst_ne, jst_ni, jst_o, jI_i, jcpy_out, w32_id, jdiv_nn] at * <;> first | done | omega | assumption) | (intros; first | rfl | (exfalso; omega) | ((repeat' apply And.intro) <;> first | assumption | rfl | omega | trivial))) -- o7 e2m
  · try dsimp only [Sum.elim_inl, Sum.elim_inr, jt2, jt3, jt4, jt5, jt6, jt7, jt8]
    refine ⟨?_, ?_⟩
    · (first | assumption | omega | ((try dsimp only [jt2, jt3, jt4]); first | omega | (simp (disch := omega) only [jst_eq, jst_ne, jst_ni, jst_o, jI_i, jcpy_out, w32_id, jdiv_nn, jshr_k, jand_255] <;> first | done | omega | assumption)) | (intros; simp (disch := omega) only [jst_eq, jst_ne, jst_ni, jst_o, jI_i, jcpy_out, w32_id, jdiv_nn, *] <;> first | done | omega) | (intros; simp (disch := omega) only [jst_eq, jst_ne, jst_ni, jst_o, jI_i, jcpy_out, w32_id, jdiv_nn] at * <;> first | done | omega | assumption) | (intros; first | rfl | (exfalso; omega) | ((repeat' apply And.intro) <;> first | assumption | rfl | omega | trivial))) -- o8 init.1
    · (rw [show (a70 - a70).toNat = 0 by omega]; exact apB_nil) -- o9 init.2
theorem vX9_apply_l8 (i2 : Int) (a40 : Int) {h0 : AH} {f : Int → Int} {l : List (Int × Int)} (hk : h0 440 (-2) = 103 ∧ i2 ≤ h0 440 (-1) ∧ 0 ≤ i2 ∧ i2 ≤ 10) (hf : ∀ k, 0 ≤ k → k < i2 → h0 440 k = f k + 97 ∧ 0 ≤ f k ∧ f k < 26) (hc : h0 452 1 = 0 ∧ 46 ≤ h0 453 (-1) ∧ h0 453 (-1) ≤ 100000) (hl : h0 408 16 = (l.length : Nat) ∧ l.length ≤ 4) (hi : itsX h0 0 l) (ho : ∀ it ∈ l, itO it) (h4 : a40 = 0) : OK (gX9_apply_l8 i2 a40 h0) (Sum.elim (fun h' => (apL f i2 l = none) ∧ (∀ a s, ¬ (a = 452 ∧ s = 1) → ¬ (a = 453 ∧ 0 ≤ s) → h' a s = h0 a s)) (fun h' => ∃ o, apL f i2 l = some o ∧ apB 452 1 453 o h0 h' ∧ o.length ≤ 40)) := by
  unfold gX9_apply_l8
  refine OK_jit (I := (fun (s : Int × AH) => jt2 s fun a4 h => (0 ≤ a4 ∧ a4 ≤ (l.length : Nat)) ∧ (∃ (l1 l2 : List (Int × Int)) (o1 : List Int), l = l1 ++ l2 ∧ (l1.length : Int) = a4 ∧ apB 452 1 453 o1 h0 h ∧ apL f i2 l = omapA o1 (apL f i2 l2) ∧ itsX h0 a4 l2 ∧ o1.length ≤ 10 * l1.length))) (m := (fun (s : Int × AH) => jt2 s fun a4 h => ((l.length : Nat) - a4).toNat)) ?_ ?_
  · intro s hs
    obtain ⟨a4, h⟩ := s
    dsimp only [Sum.elim_inl, Sum.elim_inr, jt2, jt3, jt4, jt5, jt6, jt7, jt8] at hs
    obtain ⟨q0, q1⟩ := hs
    unfold gX9_apply_b8
    refine OK_jt2 ?_
    obtain ⟨l1, l2, o1, e1, e2, AB, AL, IX, OL⟩ := q1
    have LL : l.length = l1.length + l2.length := by rw [e1, List.length_append]
    have A0 : ∀ a s, ¬ (a = 452 ∧ s = 1) → ¬ (a = 453 ∧ 0 ≤ s) → h a s = h0 a s := fun a s y1 y2 => AB.2.2 a s y1 (by omega)
    have A1 := AB.1
    have F16 : h 408 16 = h0 408 16 := A0 _ _ (by omega) (by omega)
    have FB : h 453 (-1) = h0 453 (-1) := A0 _ _ (by omega) (by omega)
    refine OK_if (fun c1 => ?_) (fun c1 => ?_)
    · skip
      try simp (disch := omega) only [jst_eq, jst_ne, jst_ni, jI_i, jcmp_lt, jcmp_gt, w32_id, jcpy_out, Sum.elim_inl, Sum.elim_inr, jt2, jt3, jt4, jt5, jt6, jt7, jt8] at c1
      refine OK_ir ?_
      (have z : l2 = [] := List.eq_nil_of_length_eq_zero (by omega); refine ⟨o1, ?_, AB, by omega⟩; rw [AL, z]; show some (o1 ++ []) = _; rw [List.append_nil]) -- o1 e1
    · skip
      try simp (disch := omega) only [jst_eq, jst_ne, jst_ni, jI_i, jcmp_lt, jcmp_gt, w32_id, jcpy_out, Sum.elim_inl, Sum.elim_inr, jt2, jt3, jt4, jt5, jt6, jt7, jt8] at c1
      obtain ⟨it, l3, e3⟩ : ∃ it l3, l2 = it :: l3 := by { cases l2 with | nil => { have z : ([] : List (Int × Int)).length = 0 := rfl; omega } | cons a b => { exact ⟨a, b, rfl⟩ } }
      have IT : itX h0 a4 it ∧ itsX h0 (a4 + 1) l3 := by { rw [e3] at IX; exact IX }
      have IO : itO it := ho it (by rw [e1, e3]; exact List.mem_append_right _ List.mem_cons_self)
      have F1 : h 421 a4 = h0 421 a4 := A0 _ _ (by omega) (by omega)
      have F2 : h 422 a4 = h0 422 a4 := A0 _ _ (by omega) (by omega)
      have F3 : h 423 a4 = h0 423 a4 := A0 _ _ (by omega) (by omega)
      have FL : a4 < (l.length : Nat) := by omega
      refine OK_jg (by (first | assumption | omega | ((try dsimp only [jt2, jt3, jt4]); first | omega | (simp (disch := omega) only [jst_eq, jst_ne, jst_ni, jst_o, jI_i, jcpy_out, w32_id, jdiv_nn, jshr_k, jand_255] <;> first | done | omega | assumption)) | (intros; simp (disch := omega) only [jst_eq, jst_ne, jst_ni, jst_o, jI_i, jcpy_out, w32_id, jdiv_nn, *] <;> first | done | omega) | (intros; simp (disch := omega) only [jst_eq, jst_ne, jst_ni, jst_o, jI_i, jcpy_out, w32_id, jdiv_nn] at * <;> first | done | omega | assumption) | (intros; first | rfl | (exfalso; omega) | ((repeat' apply And.intro) <;> first | assumption | rfl | omega | trivial)))) ?_ -- o2
      refine OK_if (fun c2 => ?_) (fun c2 => ?_)
      · skip
        try simp (disch := omega) only [jst_eq, jst_ne, jst_ni, jI_i, jcmp_lt, jcmp_gt, w32_id, jcpy_out, Sum.elim_inl, Sum.elim_inr, jt2, jt3, jt4, jt5, jt6, jt7, jt8] at c2
        have IC := IT.1.resolve_left (fun z => by omega)
        have IA : (it.1 - 1) / 200 = h 422 a4 ∧ (it.1 - 1) % 200 = h 423 a4 ∧ it.1 ≠ 0 := by { rw [IC.2.2.2, F2, F3]; have z1 := IC.2.1; have z2 := IC.2.2.1; refine ⟨?_, ?_, ?_⟩ <;> (show _ ; dsimp only; omega) }
        have AP : ap1 f i2 it = if spP f i2 (h 422 a4) < 0 then none else if spP f i2 (h 422 a4) < spP f i2 (h 423 a4) then some (nml (fun k => f (spP f i2 (h 422 a4) + k) + 97) (spP f i2 (h 423 a4) - spP f i2 (h 422 a4)).toNat) else none := by { unfold ap1; rw [if_neg IA.2.2, IA.1, IA.2.1] }
        have S9 := spP_b (f := f) (n := i2) (s := h 422 a4) (by omega) (by omega)
        have S11 := spP_b (f := f) (n := i2) (s := h 423 a4) (by omega) (by omega)
        refine OK_jb (vX9_find (f := f) _ _ _ _ (by (rw [A0 _ _ (by omega) (by omega), A0 _ _ (by omega) (by omega)]; omega)) (by (intro k k0 k1; rw [Int.zero_add, A0 _ _ (by omega) (by omega)]; exact (hf k (by omega) (by omega)).1)) (by (first | assumption | omega | ((try dsimp only [jt2, jt3, jt4]); first | omega | (simp (disch := omega) only [jst_eq, jst_ne, jst_ni, jst_o, jI_i, jcpy_out, w32_id, jdiv_nn, jshr_k, jand_255] <;> first | done | omega | assumption)) | (intros; simp (disch := omega) only [jst_eq, jst_ne, jst_ni, jst_o, jI_i, jcpy_out, w32_id, jdiv_nn, *] <;> first | done | omega) | (intros; simp (disch := omega) only [jst_eq, jst_ne, jst_ni, jst_o, jI_i, jcpy_out, w32_id, jdiv_nn] at * <;> first | done | omega | assumption) | (intros; first | rfl | (exfalso; omega) | ((repeat' apply And.intro) <;> first | assumption | rfl | omega | trivial))))) (fun v9 r1 => ?_)
        try dsimp only [Sum.elim_inl, Sum.elim_inr, jt2, jt3, jt4, jt5, jt6, jt7, jt8] at r1
        have v1 := r1
        clear r1
        try simp (disch := omega) only [jst_eq, jst_ne, jst_ni, jI_i, jcmp_lt, jcmp_gt, w32_id, jcpy_out, Sum.elim_inl, Sum.elim_inr, jt2, jt3, jt4, jt5, jt6, jt7, jt8] at v1
        refine OK_jb (vX9_find (f := f) _ _ _ _ (by (rw [A0 _ _ (by omega) (by omega), A0 _ _ (by omega) (by omega)]; omega)) (by (intro k k0 k1; rw [Int.zero_add, A0 _ _ (by omega) (by omega)]; exact (hf k (by omega) (by omega)).1)) (by (first | assumption | omega | ((try dsimp only [jt2, jt3, jt4]); first | omega | (simp (disch := omega) only [jst_eq, jst_ne, jst_ni, jst_o, jI_i, jcpy_out, w32_id, jdiv_nn, jshr_k, jand_255] <;> first | done | omega | assumption)) | (intros; simp (disch := omega) only [jst_eq, jst_ne, jst_ni, jst_o, jI_i, jcpy_out, w32_id, jdiv_nn, *] <;> first | done | omega) | (intros; simp (disch := omega) only [jst_eq, jst_ne, jst_ni, jst_o, jI_i, jcpy_out, w32_id, jdiv_nn] at * <;> first | done | omega | assumption) | (intros; first | rfl | (exfalso; omega) | ((repeat' apply And.intro) <;> first | assumption | rfl | omega | trivial))))) (fun v11 r2 => ?_)
        try dsimp only [Sum.elim_inl, Sum.elim_inr, jt2, jt3, jt4, jt5, jt6, jt7, jt8] at r2
        have v2 := r2
        clear r2
        try simp (disch := omega) only [jst_eq, jst_ne, jst_ni, jI_i, jcmp_lt, jcmp_gt, w32_id, jcpy_out, Sum.elim_inl, Sum.elim_inr, jt2, jt3, jt4, jt5, jt6, jt7, jt8] at v2
        refine OK_if (fun c3 => ?_) (fun c3 => ?_)
        · skip
          try simp (disch := omega) only [jst_eq, jst_ne, jst_ni, jI_i, jcmp_lt, jcmp_gt, w32_id, jcpy_out, Sum.elim_inl, Sum.elim_inr, jt2, jt3, jt4, jt5, jt6, jt7, jt8] at c3
          refine OK_ir ?_
          try dsimp only [Sum.elim_inl, Sum.elim_inr, jt2, jt3, jt4, jt5, jt6, jt7, jt8]
          refine ⟨?_, ?_⟩
          · (rw [AL, e3, apL_n (by rw [AP, if_pos (by omega)])]; rfl) -- o9 e2.1
          · exact A0 -- o10 e2.2
        · skip
          try simp (disch := omega) only [jst_eq, jst_ne, jst_ni, jI_i, jcmp_lt, jcmp_gt, w32_id, jcpy_out, Sum.elim_inl, Sum.elim_inr, jt2, jt3, jt4, jt5, jt6, jt7, jt8] at c3
          refine OK_if (fun c4 => ?_) (fun c4 => ?_)
          · skip
            try simp (disch := omega) only [jst_eq, jst_ne, jst_ni, jI_i, jcmp_lt, jcmp_gt, w32_id, jcpy_out, Sum.elim_inl, Sum.elim_inr, jt2, jt3, jt4, jt5, jt6, jt7, jt8] at c4
            refine OK_jb (vX9_apply_l91 (f := f) _ _ _ _ (by (intro k k0 k1; rw [A0 _ _ (by omega) (by omega)]; exact hf k (by omega) (by omega))) (by omega) (by (rw [FB]; omega))) (fun o14 r3 => ?_)
            try dsimp only [Sum.elim_inl, Sum.elim_inr, jt2, jt3, jt4, jt5, jt6, jt7, jt8] at r3
            have ab3 := r3
            clear r3
            try simp (disch := omega) only [jst_eq, jst_ne, jst_ni, jI_i, jcmp_lt, jcmp_gt, w32_id, jcpy_out, Sum.elim_inl, Sum.elim_inr, jt2, jt3, jt4, jt5, jt6, jt7, jt8] at ab3
            unfold gX9_apply_j112_8
            refine OK_jlx (fun x18 ex18 => ?_)
            try simp (disch := omega) only [jst_eq, jst_ne, jst_ni, jI_i, jcmp_lt, jcmp_gt, w32_id, jcpy_out, Sum.elim_inl, Sum.elim_inr, jt2, jt3, jt4, jt5, jt6, jt7, jt8] at ex18
            refine OK_il ?_ ?_
            · try dsimp only [Sum.elim_inl, Sum.elim_inr, jt2, jt3, jt4, jt5, jt6, jt7, jt8]
              refine ⟨?_, ?_⟩
              · omega -- o14 e3i.1
              · (have AP2 : ap1 f i2 it = some (nml (fun k => f (v9 + k) + 97) (v11 - v9).toNat) := (by rw [AP, if_neg (by omega), if_pos (by omega), v1, v2]); refine ⟨l1 ++ [it], l3, o1 ++ nml (fun k => f (v9 + k) + 97) (v11 - v9).toNat, by rw [e1, e3, List.append_assoc]; rfl, by rw [List.length_append]; show ((l1.length + 1 : Nat) : Int) = _; omega, apB_app (by decide) AB (by assumption), by rw [AL, e3, apL_s AP2, omapA_a], by rw [ex18]; exact IT.2, ?_⟩; rw [List.length_append, List.length_append, nml_l]; show _ ≤ 10 * (l1.length + 1); omega) -- o15 e3i.2
            · (first | assumption | omega | ((try dsimp only [jt2, jt3, jt4]); first | omega | (simp (disch := omega) only [jst_eq, jst_ne, jst_ni, jst_o, jI_i, jcpy_out, w32_id, jdiv_nn, jshr_k, jand_255] <;> first | done | omega | assumption)) | (intros; simp (disch := omega) only [jst_eq, jst_ne, jst_ni, jst_o, jI_i, jcpy_out, w32_id, jdiv_nn, *] <;> first | done | omega) | (intros; simp (disch := omega) only [jst_eq, jst_ne, jst_ni, jst_o, jI_i, jcpy_out, w32_id, jdiv_nn] at * <;> first | done | omega | assumption) | (intros; first | rfl | (exfalso; omega) | ((repeat' apply And.intro) <;> first | assumption | rfl | omega | trivial))) -- o16 e3m
          · skip
            try simp (disch := omega) only [jst_eq, jst_ne, jst_ni, jI_i, jcmp_lt, jcmp_gt, w32_id, jcpy_out, Sum.elim_inl, Sum.elim_inr, jt2, jt3, jt4, jt5, jt6, jt7, jt8] at c4
            refine OK_ir ?_
            try dsimp only [Sum.elim_inl, Sum.elim_inr, jt2, jt3, jt4, jt5, jt6, jt7, jt8]
            refine ⟨?_, ?_⟩
            · (rw [AL, e3, apL_n (by rw [AP, if_neg (by omega), if_neg (by omega)])]; rfl) -- o17 e4.1
            · exact A0 -- o18 e4.2
      · skip
        try simp (disch := omega) only [jst_eq, jst_ne, jst_ni, jI_i, jcmp_lt, jcmp_gt, w32_id, jcpy_out, Sum.elim_inl, Sum.elim_inr, jt2, jt3, jt4, jt5, jt6, jt7, jt8] at c2
        have IC := IT.1.resolve_right (fun z => by omega)
        have IW : 0 ≤ h 421 a4 ∧ h 421 a4 ≤ 19682 := by { rcases IO with z | ⟨a, b, z1, z2, z3⟩; { rw [IC.2] at z; rw [F1]; exact z.2 }; { rw [IC.2] at z3; have q := congrArg Prod.fst z3; have q1 : (0 : Int) = 1 + 200 * a + b := q; omega } }
        have AP : ap1 f i2 it = some (lts 9 (h 421 a4)) := by { unfold ap1; rw [F1, IC.2]; exact if_pos rfl }
        refine OK_jb (vX6_letters _ _ (by omega) (by (show 0 ≤ h 452 1 ∧ h 452 1 + 6 ≤ h 453 (-1) ∧ h 453 (-1) ≤ 100000; rw [FB]; omega))) (fun h17 r4 => ?_)
        try dsimp only [Sum.elim_inl, Sum.elim_inr, jt2, jt3, jt4, jt5, jt6, jt7, jt8] at r4
        have ab4 := r4
        clear r4
        try simp (disch := omega) only [jst_eq, jst_ne, jst_ni, jI_i, jcmp_lt, jcmp_gt, w32_id, jcpy_out, Sum.elim_inl, Sum.elim_inr, jt2, jt3, jt4, jt5, jt6, jt7, jt8] at ab4
        unfold gX9_apply_j112_8
        refine OK_jlx (fun x18 ex18 => ?_)
        try simp (disch := omega) only [jst_eq, jst_ne, jst_ni, jI_i, jcmp_lt, jcmp_gt, w32_id, jcpy_out, Sum.elim_inl, Sum.elim_inr, jt2, jt3, jt4, jt5, jt6, jt7, jt8] at ex18
        refine OK_il ?_ ?_
        · try dsimp only [Sum.elim_inl, Sum.elim_inr, jt2, jt3, jt4, jt5, jt6, jt7, jt8]
          refine ⟨?_, ?_⟩
          · omega -- o21 e5i.1
          · (have ll := lts_len 9 (h 421 a4); refine ⟨l1 ++ [it], l3, o1 ++ lts 9 (h 421 a4), by rw [e1, e3, List.append_assoc]; rfl, by rw [List.length_append]; show ((l1.length + 1 : Nat) : Int) = _; omega, apB_app (by decide) AB (by assumption), by rw [AL, e3, apL_s AP, omapA_a], by rw [ex18]; exact IT.2, ?_⟩; rw [List.length_append, List.length_append]; show _ ≤ 10 * (l1.length + 1); omega) -- o22 e5i.2
        · (first | assumption | omega | ((try dsimp only [jt2, jt3, jt4]); first | omega | (simp (disch := omega) only [jst_eq, jst_ne, jst_ni, jst_o, jI_i, jcpy_out, w32_id, jdiv_nn, jshr_k, jand_255] <;> first | done | omega | assumption)) | (intros; simp (disch := omega) only [jst_eq, jst_ne, jst_ni, jst_o, jI_i, jcpy_out, w32_id, jdiv_nn, *] <;> first | done | omega) | (intros; simp (disch := omega) only [jst_eq, jst_ne, jst_ni, jst_o, jI_i, jcpy_out, w32_id, jdiv_nn] at * <;> first | done | omega | assumption) | (intros; first | rfl | (exfalso; omega) | ((repeat' apply And.intro) <;> first | assumption | rfl | omega | trivial))) -- o23 e5m
  · try dsimp only [Sum.elim_inl, Sum.elim_inr, jt2, jt3, jt4, jt5, jt6, jt7, jt8]
    refine ⟨?_, ?_⟩
    · (first | assumption | omega | ((try dsimp only [jt2, jt3, jt4]); first | omega | (simp (disch := omega) only [jst_eq, jst_ne, jst_ni, jst_o, jI_i, jcpy_out, w32_id, jdiv_nn, jshr_k, jand_255] <;> first | done | omega | assumption)) | (intros; simp (disch := omega) only [jst_eq, jst_ne, jst_ni, jst_o, jI_i, jcpy_out, w32_id, jdiv_nn, *] <;> first | done | omega) | (intros; simp (disch := omega) only [jst_eq, jst_ne, jst_ni, jst_o, jI_i, jcpy_out, w32_id, jdiv_nn] at * <;> first | done | omega | assumption) | (intros; first | rfl | (exfalso; omega) | ((repeat' apply And.intro) <;> first | assumption | rfl | omega | trivial))) -- o24 init.1
    · (rw [h4]; refine ⟨[], l, [], rfl, rfl, apB_nil, ?_, hi, Nat.le_refl _⟩; cases apL f i2 l with | none => { rfl } | some r => { rfl }) -- o25 init.2
theorem vX9_apply (a2 : Int) {h : AH} {f : Int → Int} {l : List (Int × Int)} (hk : h 440 (-2) = 103 ∧ a2 ≤ h 440 (-1) ∧ 0 ≤ a2 ∧ a2 ≤ 10) (hf : ∀ k, 0 ≤ k → k < a2 → h 440 k = f k + 97 ∧ 0 ≤ f k ∧ f k < 26) (hc : 46 ≤ h 453 (-1) ∧ h 453 (-1) ≤ 100000) (hl : h 408 16 = (l.length : Nat) ∧ l.length ≤ 4) (hi : itsX h 0 l) (ho : ∀ it ∈ l, itO it) : OK (gX9_apply a2 h) (fun r => jt2 r fun v h' => ((v = 0 ∧ apL f a2 l = none) ∨ (v = 1 ∧ ∃ o, apL f a2 l = some o ∧ o.length ≤ 40 ∧ h' 452 1 = (o.length : Nat) ∧ ∀ i : Nat, i < o.length → h' 453 i = o.getD i 0)) ∧ (∀ a s, ¬ (a = 452 ∧ s = 1) → ¬ (a = 453 ∧ 0 ≤ s) → h' a s = h a s)) := by
  unfold gX9_apply
  refine OK_jl ?_
  refine OK_jb (vX9_apply_l8 (f := f) (l := l) _ _ (by (rw [jst_ne (by decide), jst_ne (by decide)]; exact hk)) (by (intro k k0 k1; rw [jst_ne (by decide)]; exact hf k k0 k1)) (by (rw [jst_eq, jst_ne (by decide)]; exact ⟨rfl, hc⟩)) (by (rw [jst_ne (by decide)]; exact hl)) (by exact itsX_f hi (fun a s _ _ _ _ => jst_o (by omega))) (by (first | assumption | omega | ((try dsimp only [jt2, jt3, jt4]); first | omega | (simp (disch := omega) only [jst_eq, jst_ne, jst_ni, jst_o, jI_i, jcpy_out, w32_id, jdiv_nn, jshr_k, jand_255] <;> first | done | omega | assumption)) | (intros; simp (disch := omega) only [jst_eq, jst_ne, jst_ni, jst_o, jI_i, jcpy_out, w32_id, jdiv_nn, *] <;> first | done | omega) | (intros; simp (disch := omega) only [jst_eq, jst_ne, jst_ni, jst_o, jI_i, jcpy_out, w32_id, jdiv_nn] at * <;> first | done | omega | assumption) | (intros; first | rfl | (exfalso; omega) | ((repeat' apply And.intro) <;> first | assumption | rfl | omega | trivial)))) (by (first | assumption | omega | ((try dsimp only [jt2, jt3, jt4]); first | omega | (simp (disch := omega) only [jst_eq, jst_ne, jst_ni, jst_o, jI_i, jcpy_out, w32_id, jdiv_nn, jshr_k, jand_255] <;> first | done | omega | assumption)) | (intros; simp (disch := omega) only [jst_eq, jst_ne, jst_ni, jst_o, jI_i, jcpy_out, w32_id, jdiv_nn, *] <;> first | done | omega) | (intros; simp (disch := omega) only [jst_eq, jst_ne, jst_ni, jst_o, jI_i, jcpy_out, w32_id, jdiv_nn] at * <;> first | done | omega | assumption) | (intros; first | rfl | (exfalso; omega) | ((repeat' apply And.intro) <;> first | assumption | rfl | omega | trivial))))) (fun o2 r1 => ?_)
  rcases o2 with o4 | o5
  · skip
    have r2 := r1; clear r1
    dsimp only [Sum.elim_inl, Sum.elim_inr] at r2
    try dsimp only [Sum.elim_inl, Sum.elim_inr, jt2, jt3, jt4, jt5, jt6, jt7, jt8] at r2
    obtain ⟨no1, fr1⟩ := r2
    try simp (disch := omega) only [jst_eq, jst_ne, jst_ni, jI_i, jcmp_lt, jcmp_gt, w32_id, jcpy_out, Sum.elim_inl, Sum.elim_inr, jt2, jt3, jt4, jt5, jt6, jt7, jt8] at no1
    try simp (disch := omega) only [jst_eq, jst_ne, jst_ni, jI_i, jcmp_lt, jcmp_gt, w32_id, jcpy_out, Sum.elim_inl, Sum.elim_inr, jt2, jt3, jt4, jt5, jt6, jt7, jt8] at fr1
    refine OK_jml ?_
    refine OK_some ?_
    try dsimp only [Sum.elim_inl, Sum.elim_inr, jt2, jt3, jt4, jt5, jt6, jt7, jt8]
    try dsimp only [Sum.elim_inl, Sum.elim_inr, jt2, jt3, jt4, jt5, jt6, jt7, jt8]
    refine ⟨?_, ?_⟩
    · exact Or.inl ⟨rfl, by assumption⟩ -- o8 e1.1
    · (have z : ∀ a s, ¬ (a = 452 ∧ s = 1) → ¬ (a = 453 ∧ 0 ≤ s) → o4 a s = jst h 452 1 0 a s := (by assumption); exact fun a s y1 y2 => (z a s y1 y2).trans (jst_o (by omega))) -- o9 e1.2
  · skip
    have r3 := r1; clear r1
    dsimp only [Sum.elim_inl, Sum.elim_inr] at r3
    try dsimp only [Sum.elim_inl, Sum.elim_inr, jt2, jt3, jt4, jt5, jt6, jt7, jt8] at r3
    have ye2 := r3
    clear r3
    try simp (disch := omega) only [jst_eq, jst_ne, jst_ni, jI_i, jcmp_lt, jcmp_gt, w32_id, jcpy_out, Sum.elim_inl, Sum.elim_inr, jt2, jt3, jt4, jt5, jt6, jt7, jt8] at ye2
    refine OK_jmr ?_
    refine OK_some ?_
    try dsimp only [Sum.elim_inl, Sum.elim_inr, jt2, jt3, jt4, jt5, jt6, jt7, jt8]
    try dsimp only [Sum.elim_inl, Sum.elim_inr, jt2, jt3, jt4, jt5, jt6, jt7, jt8]
    refine ⟨?_, ?_⟩
    · (have z : ∃ o, apL f a2 l = some o ∧ apB 452 1 453 o (jst h 452 1 0) o5 ∧ o.length ≤ 40 := (by assumption); obtain ⟨o, z1, z2, z3⟩ := z; have z4 := z2.1; have z5 := z2.2.1; rw [jst_eq] at z4 z5; exact Or.inr ⟨rfl, o, z1, z3, by omega, fun i hi => by have := z5 i hi; rw [Int.zero_add] at this; exact this⟩) -- o10 e2.1
    · (have z : ∃ o, apL f a2 l = some o ∧ apB 452 1 453 o (jst h 452 1 0) o5 ∧ o.length ≤ 40 := (by assumption); obtain ⟨o, z1, z2, z3⟩ := z; exact fun a s y1 y2 => (z2.2.2 a s y1 (by rw [jst_eq]; omega)).trans (jst_o (by omega))) -- o11 e2.2

