/-! x: what a cut, a word leads to -/
theorem nb_hi {u n : Nat} (h : u < 2 ^ (4 * n)) {j : Nat} (l : n ≤ j) : nb u j = 0 := by
  unfold nb
  have p : 2 ^ (4 * n) ≤ 2 ^ (4 * j) := Nat.pow_le_pow_right (by decide) (by omega)
  rw [Nat.div_eq_of_lt (by omega), Nat.zero_mod]
def okU1 (e : CE) (u : Nat) (a b : Int) (r : Nat) : Prop := ps e a r < ps e b r ∧ ((nb u r : Nat) : Int) + ps e b r - ps e a r ≤ e.2.2.2.2 r ∧ ∀ k, ps e a r ≤ k → k < ps e b r → e.2.1 r k = e.2.2.1 r (((nb u r : Nat) : Int) + k - ps e a r)
def okL1 (e : CE) (u : Nat) (n : Int) (r : Nat) : Prop := ((nb u r : Nat) : Int) + n ≤ e.2.2.2.2 r ∧ ∀ k, 0 ≤ k → k < n → e.2.2.1 r (((nb u r : Nat) : Int) + k) = e.2.2.1 0 (((nb u 0 : Nat) : Int) + k)
/-- a long that was put together is the state -/
theorem st_of {e : CE} {f : Nat → Nat} {x : Int} (v : vCE e) (h : ∀ r : Nat, (r : Int) < e.1 → ((f r : Nat) : Int) ≤ e.2.2.2.2 r) (hx : jr64 x) (n : ∀ j, j < 16 → nb (uL x) j = if j < e.1.toNat then f j % 16 else 0) : x = ((mkU f e.1.toNat : Nat) : Int) := by
  obtain ⟨s, q⟩ := mkU_st (f := f) v h
  have l := stU_lt v s
  have hy : jr64 ((mkU f e.1.toNat : Nat) : Int) := by unfold jr64; omega
  refine nbL_ext hx hy (fun j hj => ?_)
  rw [n j hj, uL_nat (by omega)]
  by_cases y : j < e.1.toNat
  · have b : f j < 16 := by
      have := h j (by omega)
      have := (v.2 j (by omega) (by omega)).2.1
      omega
    rw [if_pos y, q j (by omega), Nat.mod_eq_of_lt b]
  · rw [if_neg y, nb_hi s.1 (by omega)]
theorem vX9_behind_l86 (i1 : Int) (i3 : Int) (i4 : Int) (i5 : Int) (i7 : Int) (i8 : Int) (i9 : Int) (i10 : Int) (a110 : Int) {h : AH} {e : CE} (hc : cuX h e) (hr : 0 ≤ i7 ∧ i7 < e.1 ∧ e.1 ≤ 8) (h8 : 0 ≤ i8 ∧ i8 < i9 ∧ i9 ≤ e.2.2.2.1 i7 ∧ e.2.2.2.1 i7 ≤ 10 ∧ 0 ≤ i10 ∧ i10 + i9 - i8 ≤ e.2.2.2.2 i7 ∧ e.2.2.2.2 i7 ≤ 10) (h0 : a110 = i8) : OK (gX9_behind_l86 i1 i3 i4 i5 i7 i8 i9 i10 a110 h) (Sum.elim (fun _ => ∃ k, i8 ≤ k ∧ k < i9 ∧ e.2.1 i7 k ≠ e.2.2.1 i7 (i10 + k - i8)) (fun _ => ∀ k, i8 ≤ k → k < i9 → e.2.1 i7 k = e.2.2.1 i7 (i10 + k - i8))) := by
  unfold gX9_behind_l86
  refine OK_jit (I := (fun (a11 : Int) => (i8 ≤ a11 ∧ a11 ≤ i9) ∧ (∀ k, i8 ≤ k → k < a11 → e.2.1 i7 k = e.2.2.1 i7 (i10 + k - i8)))) (m := (fun (a11 : Int) => (i9 - a11).toNat)) ?_ ?_
  · intro a11 hs
    try dsimp only at hs
    obtain ⟨q0, q1⟩ := hs
    unfold gX9_behind_b86
    obtain ⟨_, _, c3, c4⟩ := hc.2 i7 hr.1 hr.2.1
    have W1 : w32 (w32 (10 * i7) + a11) = 10 * i7 + a11 := by { rw [w32_id (x := 10 * i7) (by omega) (by omega), w32_id (by omega) (by omega)] }
    have W2 : w32 (w32 (w32 (w32 (10 * i7) + i10) + a11) - i8) = 10 * i7 + (i10 + a11 - i8) := by { rw [w32_id (x := 10 * i7) (by omega) (by omega), w32_id (x := 10 * i7 + i10) (by omega) (by omega), w32_id (x := 10 * i7 + i10 + a11) (by omega) (by omega), w32_id (by omega) (by omega)]; omega }
    rw [W1, W2]
    refine OK_if (fun c1 => ?_) (fun c1 => ?_)
    · skip
      try simp (disch := omega) only [jst_eq, jst_ne, jst_ni, jI_i, jcmp_lt, jcmp_gt, w32_id, jcpy_out, Sum.elim_inl, Sum.elim_inr, jt2, jt3, jt4, jt5, jt6, jt7, jt8] at c1
      refine OK_ir ?_
      exact fun k k0 k1 => q1 k k0 (by omega) -- o1 e1
    · skip
      try simp (disch := omega) only [jst_eq, jst_ne, jst_ni, jI_i, jcmp_lt, jcmp_gt, w32_id, jcpy_out, Sum.elim_inl, Sum.elim_inr, jt2, jt3, jt4, jt5, jt6, jt7, jt8] at c1
      have L1 := c3 a11 (by omega) (by omega)
      have L2 := c4 (i10 + a11 - i8) (by omega) (by omega)
      refine OK_jg (by (first | assumption | omega | ((try dsimp only [jt2, jt3, jt4]); first | omega | (simp (disch := omega) only [jst_eq, jst_ne, jst_ni, jst_o, jI_i, jcpy_out, w32_id, jdiv_nn, jshr_k, jand_255] <;> first | done | omega | assumption)) | (intros; simp (disch := omega) only [jst_eq, jst_ne, jst_ni, jst_o, jI_i, jcpy_out, w32_id, jdiv_nn, *] <;> first | done | omega) | (intros; simp (disch := omega) only [jst_eq, jst_ne, jst_ni, jst_o, jI_i, jcpy_out, w32_id, jdiv_nn] at * <;> first | done | omega | assumption) | (intros; first | rfl | (exfalso; omega) | ((repeat' apply And.intro) <;> first | assumption | rfl | omega | trivial)))) ?_ -- o2
      refine OK_jg (by (first | assumption | omega | ((try dsimp only [jt2, jt3, jt4]); first | omega | (simp (disch := omega) only [jst_eq, jst_ne, jst_ni, jst_o, jI_i, jcpy_out, w32_id, jdiv_nn, jshr_k, jand_255] <;> first | done | omega | assumption)) | (intros; simp (disch := omega) only [jst_eq, jst_ne, jst_ni, jst_o, jI_i, jcpy_out, w32_id, jdiv_nn, *] <;> first | done | omega) | (intros; simp (disch := omega) only [jst_eq, jst_ne, jst_ni, jst_o, jI_i, jcpy_out, w32_id, jdiv_nn] at * <;> first | done | omega | assumption) | (intros; first | rfl | (exfalso; omega) | ((repeat' apply And.intro) <;> first | assumption | rfl | omega | trivial)))) ?_ -- o3
      refine OK_if (fun c2 => ?_) (fun c2 => ?_)
      · skip
        try simp (disch := omega) only [jst_eq, jst_ne, jst_ni, jI_i, jcmp_lt, jcmp_gt, w32_id, jcpy_out, Sum.elim_inl, Sum.elim_inr, jt2, jt3, jt4, jt5, jt6, jt7, jt8] at c2
        refine OK_jlx (fun x22 ex22 => ?_)
        try simp (disch := omega) only [jst_eq, jst_ne, jst_ni, jI_i, jcmp_lt, jcmp_gt, w32_id, jcpy_out, Sum.elim_inl, Sum.elim_inr, jt2, jt3, jt4, jt5, jt6, jt7, jt8] at ex22
        refine OK_il ?_ ?_
        · try dsimp only [Sum.elim_inl, Sum.elim_inr, jt2, jt3, jt4, jt5, jt6, jt7, jt8]
          refine ⟨?_, ?_⟩
          · (first | assumption | omega | ((try dsimp only [jt2, jt3, jt4]); first | omega | (simp (disch := omega) only [jst_eq, jst_ne, jst_ni, jst_o, jI_i, jcpy_out, w32_id, jdiv_nn, jshr_k, jand_255] <;> first | done | omega | assumption)) | (intros; simp (disch := omega) only [jst_eq, jst_ne, jst_ni, jst_o, jI_i, jcpy_out, w32_id, jdiv_nn, *] <;> first | done | omega) | (intros; simp (disch := omega) only [jst_eq, jst_ne, jst_ni, jst_o, jI_i, jcpy_out, w32_id, jdiv_nn] at * <;> first | done | omega | assumption) | (intros; first | rfl | (exfalso; omega) | ((repeat' apply And.intro) <;> first | assumption | rfl | omega | trivial))) -- o4 e2i.1
          · (intro k k0 k1; by_cases y : k = a11; { rw [y]; omega }; { exact q1 k k0 (by omega) }) -- o5 e2i.2
        · (first | assumption | omega | ((try dsimp only [jt2, jt3, jt4]); first | omega | (simp (disch := omega) only [jst_eq, jst_ne, jst_ni, jst_o, jI_i, jcpy_out, w32_id, jdiv_nn, jshr_k, jand_255] <;> first | done | omega | assumption)) | (intros; simp (disch := omega) only [jst_eq, jst_ne, jst_ni, jst_o, jI_i, jcpy_out, w32_id, jdiv_nn, *] <;> first | done | omega) | (intros; simp (disch := omega) only [jst_eq, jst_ne, jst_ni, jst_o, jI_i, jcpy_out, w32_id, jdiv_nn] at * <;> first | done | omega | assumption) | (intros; first | rfl | (exfalso; omega) | ((repeat' apply And.intro) <;> first | assumption | rfl | omega | trivial))) -- o6 e2m
      · skip
        try simp (disch := omega) only [jst_eq, jst_ne, jst_ni, jI_i, jcmp_lt, jcmp_gt, w32_id, jcpy_out, Sum.elim_inl, Sum.elim_inr, jt2, jt3, jt4, jt5, jt6, jt7, jt8] at c2
        refine OK_ir ?_
        exact ⟨a11, q0.1, by omega, fun z => by omega⟩ -- o7 e3
  · try dsimp only [Sum.elim_inl, Sum.elim_inr, jt2, jt3, jt4, jt5, jt6, jt7, jt8]
    refine ⟨?_, ?_⟩
    · (first | assumption | omega | ((try dsimp only [jt2, jt3, jt4]); first | omega | (simp (disch := omega) only [jst_eq, jst_ne, jst_ni, jst_o, jI_i, jcpy_out, w32_id, jdiv_nn, jshr_k, jand_255] <;> first | done | omega | assumption)) | (intros; simp (disch := omega) only [jst_eq, jst_ne, jst_ni, jst_o, jI_i, jcpy_out, w32_id, jdiv_nn, *] <;> first | done | omega) | (intros; simp (disch := omega) only [jst_eq, jst_ne, jst_ni, jst_o, jI_i, jcpy_out, w32_id, jdiv_nn] at * <;> first | done | omega | assumption) | (intros; first | rfl | (exfalso; omega) | ((repeat' apply And.intro) <;> first | assumption | rfl | omega | trivial))) -- o8 init.1
    · (intro k k0 k1; omega) -- o9 init.2
theorem vX9_behind_l6 (i1 : Int) (i3 : Int) (i4 : Int) (a50 : Int) (a70 : Int) {h : AH} {e : CE} {u : Nat} (hc : cuX h e) (hv : vCE e) (hs : spX h e 178) (hu : i1 = u ∧ stU e u) (h3 : (0 ≤ i3 ∧ i3 < 178 ∧ isP e i3) ∧ 0 ≤ i4 ∧ i4 < 178 ∧ isP e i4) (h0 : a50 = 0 ∧ a70 = 0) : OK (gX9_behind_l6 i1 i3 i4 a50 a70 h) (Sum.elim (fun _ => ¬ okU e u i3 i4) (Sum.elim (fun _ => ¬ okU e u i3 i4) (fun v => okU e u i3 i4 ∧ v = ((nxC e u i3 i4 : Nat) : Int)))) := by
  have n8 := hv.1
  have ul := stU_lt hv hu.2
  unfold gX9_behind_l6
  refine OK_jit (I := (fun (s : Int × Int) => jt2 s fun a5 a7 => (0 ≤ a7 ∧ a7 ≤ e.1) ∧ (jr64 a5 ∧ ∀ j, j < 16 → nb (uL a5) j = if j < a7.toNat then fnC e u i3 i4 j % 16 else 0) ∧ (∀ r : Nat, (r : Int) < a7 → okU1 e u i3 i4 r))) (m := (fun (s : Int × Int) => jt2 s fun a5 a7 => (e.1 - a7).toNat)) ?_ ?_
  · intro s hs
    obtain ⟨a5, a7⟩ := s
    dsimp only [Sum.elim_inl, Sum.elim_inr, jt2, jt3, jt4, jt5, jt6, jt7, jt8] at hs
    obtain ⟨q0, q1, q2⟩ := hs
    unfold gX9_behind_b6
    refine OK_jt2 ?_
    have c0 := hc.1
    have e7 : ((a7.toNat : Nat) : Int) = a7 := by omega
    have W1 : a7 < 8 → w32 (w32 (8 * i3) + a7) = 8 * i3 + a7 := fun l => by { rw [w32_id (x := 8 * i3) (by omega) (by omega), w32_id (by omega) (by omega)] }
    have W2 : a7 < 8 → w32 (w32 (8 * i4) + a7) = 8 * i4 + a7 := fun l => by { rw [w32_id (x := 8 * i4) (by omega) (by omega), w32_id (by omega) (by omega)] }
    refine OK_if (fun c1 => ?_) (fun c1 => ?_)
    · skip
      try simp (disch := omega) only [jst_eq, jst_ne, jst_ni, jI_i, jcmp_lt, jcmp_gt, w32_id, jcpy_out, Sum.elim_inl, Sum.elim_inr, jt2, jt3, jt4, jt5, jt6, jt7, jt8] at c1
      refine OK_ir ?_
      (have en : a7 = e.1 := (by omega); rw [en] at q1 q2; exact ⟨q2, st_of hv (fun r l => by have := q2 r l; unfold okU1 at this; unfold fnC; omega) q1.1 q1.2⟩) -- o1 e1
    · skip
      try simp (disch := omega) only [jst_eq, jst_ne, jst_ni, jI_i, jcmp_lt, jcmp_gt, w32_id, jcpy_out, Sum.elim_inl, Sum.elim_inr, jt2, jt3, jt4, jt5, jt6, jt7, jt8] at c1
      rw [W1 (by omega), W2 (by omega)]
      have P3 := (hs i3 h3.1.1 h3.1.2.1).1 a7 q0.1 (by omega)
      have P4 := (hs i4 h3.2.1 h3.2.2.1).1 a7 q0.1 (by omega)
      have n3 := h3.1.2.2 a7 q0.1 (by omega)
      have n4 := h3.2.2.2 a7 q0.1 (by omega)
      obtain ⟨r1, r2, _, _⟩ := hc.2 a7 q0.1 (by omega)
      obtain ⟨s1, s2, _, _⟩ := hv.2 a7 q0.1 (by omega)
      have b4 : ps e i4 a7 ≤ e.2.2.2.1 a7 := (spP_b s1.1 h3.2.1).2
      have b3 : ps e i3 a7 ≤ e.2.2.2.1 a7 := (spP_b s1.1 h3.1.1).2
      refine OK_jg (by (first | assumption | omega | ((try dsimp only [jt2, jt3, jt4]); first | omega | (simp (disch := omega) only [jst_eq, jst_ne, jst_ni, jst_o, jI_i, jcpy_out, w32_id, jdiv_nn, jshr_k, jand_255] <;> first | done | omega | assumption)) | (intros; simp (disch := omega) only [jst_eq, jst_ne, jst_ni, jst_o, jI_i, jcpy_out, w32_id, jdiv_nn, *] <;> first | done | omega) | (intros; simp (disch := omega) only [jst_eq, jst_ne, jst_ni, jst_o, jI_i, jcpy_out, w32_id, jdiv_nn] at * <;> first | done | omega | assumption) | (intros; first | rfl | (exfalso; omega) | ((repeat' apply And.intro) <;> first | assumption | rfl | omega | trivial)))) ?_ -- o2
      refine OK_jlx (fun x8 ex8 => ?_)
      try simp (disch := omega) only [jst_eq, jst_ne, jst_ni, jI_i, jcmp_lt, jcmp_gt, w32_id, jcpy_out, Sum.elim_inl, Sum.elim_inr, jt2, jt3, jt4, jt5, jt6, jt7, jt8] at ex8
      refine OK_jg (by (first | assumption | omega | ((try dsimp only [jt2, jt3, jt4]); first | omega | (simp (disch := omega) only [jst_eq, jst_ne, jst_ni, jst_o, jI_i, jcpy_out, w32_id, jdiv_nn, jshr_k, jand_255] <;> first | done | omega | assumption)) | (intros; simp (disch := omega) only [jst_eq, jst_ne, jst_ni, jst_o, jI_i, jcpy_out, w32_id, jdiv_nn, *] <;> first | done | omega) | (intros; simp (disch := omega) only [jst_eq, jst_ne, jst_ni, jst_o, jI_i, jcpy_out, w32_id, jdiv_nn] at * <;> first | done | omega | assumption) | (intros; first | rfl | (exfalso; omega) | ((repeat' apply And.intro) <;> first | assumption | rfl | omega | trivial)))) ?_ -- o3
      refine OK_jlx (fun x9 ex9 => ?_)
      try simp (disch := omega) only [jst_eq, jst_ne, jst_ni, jI_i, jcmp_lt, jcmp_gt, w32_id, jcpy_out, Sum.elim_inl, Sum.elim_inr, jt2, jt3, jt4, jt5, jt6, jt7, jt8] at ex9
      refine OK_jb (vX9_placeIn (u := u) _ _ (by exact ⟨hu.1, ul⟩) (by (first | assumption | omega | ((try dsimp only [jt2, jt3, jt4]); first | omega | (simp (disch := omega) only [jst_eq, jst_ne, jst_ni, jst_o, jI_i, jcpy_out, w32_id, jdiv_nn, jshr_k, jand_255] <;> first | done | omega | assumption)) | (intros; simp (disch := omega) only [jst_eq, jst_ne, jst_ni, jst_o, jI_i, jcpy_out, w32_id, jdiv_nn, *] <;> first | done | omega) | (intros; simp (disch := omega) only [jst_eq, jst_ne, jst_ni, jst_o, jI_i, jcpy_out, w32_id, jdiv_nn] at * <;> first | done | omega | assumption) | (intros; first | rfl | (exfalso; omega) | ((repeat' apply And.intro) <;> first | assumption | rfl | omega | trivial))))) (fun v11 r1 => ?_)
      try dsimp only [Sum.elim_inl, Sum.elim_inr, jt2, jt3, jt4, jt5, jt6, jt7, jt8] at r1
      have v1 := r1
      clear r1
      try simp (disch := omega) only [jst_eq, jst_ne, jst_ni, jI_i, jcmp_lt, jcmp_gt, w32_id, jcpy_out, Sum.elim_inl, Sum.elim_inr, jt2, jt3, jt4, jt5, jt6, jt7, jt8] at v1
      have nl := nb_lt u a7.toNat
      have V11 : v11 = ((nb u a7.toNat : Nat) : Int) := by { first | exact v1 | assumption }
      have W3 : w32 (w32 (v11 + x9) - x8) = v11 + x9 - x8 := by { rw [w32_id (x := v11 + x9) (by omega) (by omega), w32_id (by omega) (by omega)] }
      rw [W3]
      refine OK_if (fun c2 => ?_) (fun c2 => ?_)
      · skip
        try simp (disch := omega) only [jst_eq, jst_ne, jst_ni, jI_i, jcmp_lt, jcmp_gt, w32_id, jcpy_out, Sum.elim_inl, Sum.elim_inr, jt2, jt3, jt4, jt5, jt6, jt7, jt8] at c2
        refine OK_ir ?_
        (intro o; have z := (o a7.toNat (by omega)).1; rw [e7] at z; omega) -- o6 e2
      · skip
        try simp (disch := omega) only [jst_eq, jst_ne, jst_ni, jI_i, jcmp_lt, jcmp_gt, w32_id, jcpy_out, Sum.elim_inl, Sum.elim_inr, jt2, jt3, jt4, jt5, jt6, jt7, jt8] at c2
        refine OK_jg (by (first | assumption | omega | ((try dsimp only [jt2, jt3, jt4]); first | omega | (simp (disch := omega) only [jst_eq, jst_ne, jst_ni, jst_o, jI_i, jcpy_out, w32_id, jdiv_nn, jshr_k, jand_255] <;> first | done | omega | assumption)) | (intros; simp (disch := omega) only [jst_eq, jst_ne, jst_ni, jst_o, jI_i, jcpy_out, w32_id, jdiv_nn, *] <;> first | done | omega) | (intros; simp (disch := omega) only [jst_eq, jst_ne, jst_ni, jst_o, jI_i, jcpy_out, w32_id, jdiv_nn] at * <;> first | done | omega | assumption) | (intros; first | rfl | (exfalso; omega) | ((repeat' apply And.intro) <;> first | assumption | rfl | omega | trivial)))) ?_ -- o7
        refine OK_if (fun c3 => ?_) (fun c3 => ?_)
        · skip
          try simp (disch := omega) only [jst_eq, jst_ne, jst_ni, jI_i, jcmp_lt, jcmp_gt, w32_id, jcpy_out, Sum.elim_inl, Sum.elim_inr, jt2, jt3, jt4, jt5, jt6, jt7, jt8] at c3
          refine OK_jb (vX9_behind_l86 (e := e) _ _ _ _ _ _ _ _ _ (by (first | assumption | omega | ((try dsimp only [jt2, jt3, jt4]); first | omega | (simp (disch := omega) only [jst_eq, jst_ne, jst_ni, jst_o, jI_i, jcpy_out, w32_id, jdiv_nn, jshr_k, jand_255] <;> first | done | omega | assumption)) | (intros; simp (disch := omega) only [jst_eq, jst_ne, jst_ni, jst_o, jI_i, jcpy_out, w32_id, jdiv_nn, *] <;> first | done | omega) | (intros; simp (disch := omega) only [jst_eq, jst_ne, jst_ni, jst_o, jI_i, jcpy_out, w32_id, jdiv_nn] at * <;> first | done | omega | assumption) | (intros; first | rfl | (exfalso; omega) | ((repeat' apply And.intro) <;> first | assumption | rfl | omega | trivial)))) (by omega) (by omega) (by (first | assumption | omega | ((try dsimp only [jt2, jt3, jt4]); first | omega | (simp (disch := omega) only [jst_eq, jst_ne, jst_ni, jst_o, jI_i, jcpy_out, w32_id, jdiv_nn, jshr_k, jand_255] <;> first | done | omega | assumption)) | (intros; simp (disch := omega) only [jst_eq, jst_ne, jst_ni, jst_o, jI_i, jcpy_out, w32_id, jdiv_nn, *] <;> first | done | omega) | (intros; simp (disch := omega) only [jst_eq, jst_ne, jst_ni, jst_o, jI_i, jcpy_out, w32_id, jdiv_nn] at * <;> first | done | omega | assumption) | (intros; first | rfl | (exfalso; omega) | ((repeat' apply And.intro) <;> first | assumption | rfl | omega | trivial))))) (fun o14 r2 => ?_)
          rcases o14 with o16 | o17
          · skip
            have r3 := r2; clear r2
            dsimp only [Sum.elim_inl, Sum.elim_inr] at r3
            try dsimp only [Sum.elim_inl, Sum.elim_inr, jt2, jt3, jt4, jt5, jt6, jt7, jt8] at r3
            have no2 := r3
            clear r3
            try simp (disch := omega) only [jst_eq, jst_ne, jst_ni, jI_i, jcmp_lt, jcmp_gt, w32_id, jcpy_out, Sum.elim_inl, Sum.elim_inr, jt2, jt3, jt4, jt5, jt6, jt7, jt8] at no2
            refine OK_jml ?_
            refine OK_ir ?_
            (intro o; obtain ⟨k, k0, k1, k2⟩ := no2; have z := (o a7.toNat (by omega)).2.2 k; rw [e7] at z; exact k2 (by rw [V11, ex8, P3]; exact z (by omega) (by omega))) -- o12 e3
          · skip
            have r4 := r2; clear r2
            dsimp only [Sum.elim_inl, Sum.elim_inr] at r4
            try dsimp only [Sum.elim_inl, Sum.elim_inr, jt2, jt3, jt4, jt5, jt6, jt7, jt8] at r4
            have ye3 := r4
            clear r4
            try simp (disch := omega) only [jst_eq, jst_ne, jst_ni, jI_i, jcmp_lt, jcmp_gt, w32_id, jcpy_out, Sum.elim_inl, Sum.elim_inr, jt2, jt3, jt4, jt5, jt6, jt7, jt8] at ye3
            refine OK_jmr ?_
            refine OK_jlx (fun x18 ex18 => ?_)
            try simp (disch := omega) only [jst_eq, jst_ne, jst_ni, jI_i, jcmp_lt, jcmp_gt, w32_id, jcpy_out, Sum.elim_inl, Sum.elim_inr, jt2, jt3, jt4, jt5, jt6, jt7, jt8] at ex18
            have F7 : fnC e u i3 i4 a7.toNat % 16 < 16 := Nat.mod_lt _ (by decide)
            have G7 : v11 + x9 - x8 = ((fnC e u i3 i4 a7.toNat % 16 : Nat) : Int) := by { unfold fnC; rw [e7, ← V11, ← P3, ← P4, ← ex8, ← ex9]; omega }
            refine OK_jlx (fun x19 ex19 => ?_)
            try simp (disch := omega) only [jst_eq, jst_ne, jst_ni, jI_i, jcmp_lt, jcmp_gt, w32_id, jcpy_out, Sum.elim_inl, Sum.elim_inr, jt2, jt3, jt4, jt5, jt6, jt7, jt8] at ex19
            refine OK_il ?_ ?_
            · try dsimp only [Sum.elim_inl, Sum.elim_inr, jt2, jt3, jt4, jt5, jt6, jt7, jt8]
              refine ⟨?_, ?_, ?_⟩
              · (first | assumption | omega | ((try dsimp only [jt2, jt3, jt4]); first | omega | (simp (disch := omega) only [jst_eq, jst_ne, jst_ni, jst_o, jI_i, jcpy_out, w32_id, jdiv_nn, jshr_k, jand_255] <;> first | done | omega | assumption)) | (intros; simp (disch := omega) only [jst_eq, jst_ne, jst_ni, jst_o, jI_i, jcpy_out, w32_id, jdiv_nn, *] <;> first | done | omega) | (intros; simp (disch := omega) only [jst_eq, jst_ne, jst_ni, jst_o, jI_i, jcpy_out, w32_id, jdiv_nn] at * <;> first | done | omega | assumption) | (intros; first | rfl | (exfalso; omega) | ((repeat' apply And.intro) <;> first | assumption | rfl | omega | trivial))) -- o13 e4i.1
              · (rw [ex18, G7, show 4 * a7 = ((4 * a7.toNat : Nat) : Int) by omega, show x19.toNat = a7.toNat + 1 by omega]; exact ⟨jorL_r _ _, orS (f := fun j => fnC e u i3 i4 j % 16) (by omega) (fun j _ => Nat.mod_lt _ (by decide)) q1.2⟩) -- o14 e4i.2
              · (intro r l; by_cases y : (r : Int) = a7; { unfold okU1; rw [y, show r = a7.toNat by omega, ← V11, ← P3, ← P4, ← ex8, ← ex9]; exact ⟨by omega, by omega, ye3⟩ }; { exact q2 r (by omega) }) -- o15 e4i.3
            · (first | assumption | omega | ((try dsimp only [jt2, jt3, jt4]); first | omega | (simp (disch := omega) only [jst_eq, jst_ne, jst_ni, jst_o, jI_i, jcpy_out, w32_id, jdiv_nn, jshr_k, jand_255] <;> first | done | omega | assumption)) | (intros; simp (disch := omega) only [jst_eq, jst_ne, jst_ni, jst_o, jI_i, jcpy_out, w32_id, jdiv_nn, *] <;> first | done | omega) | (intros; simp (disch := omega) only [jst_eq, jst_ne, jst_ni, jst_o, jI_i, jcpy_out, w32_id, jdiv_nn] at * <;> first | done | omega | assumption) | (intros; first | rfl | (exfalso; omega) | ((repeat' apply And.intro) <;> first | assumption | rfl | omega | trivial))) -- o16 e4m
        · skip
          try simp (disch := omega) only [jst_eq, jst_ne, jst_ni, jI_i, jcmp_lt, jcmp_gt, w32_id, jcpy_out, Sum.elim_inl, Sum.elim_inr, jt2, jt3, jt4, jt5, jt6, jt7, jt8] at c3
          refine OK_ir ?_
          (intro o; have z := (o a7.toNat (by omega)).2.1; rw [e7] at z; omega) -- o17 e5
  · try dsimp only [Sum.elim_inl, Sum.elim_inr, jt2, jt3, jt4, jt5, jt6, jt7, jt8]
    refine ⟨?_, ?_, ?_⟩
    · (first | assumption | omega | ((try dsimp only [jt2, jt3, jt4]); first | omega | (simp (disch := omega) only [jst_eq, jst_ne, jst_ni, jst_o, jI_i, jcpy_out, w32_id, jdiv_nn, jshr_k, jand_255] <;> first | done | omega | assumption)) | (intros; simp (disch := omega) only [jst_eq, jst_ne, jst_ni, jst_o, jI_i, jcpy_out, w32_id, jdiv_nn, *] <;> first | done | omega) | (intros; simp (disch := omega) only [jst_eq, jst_ne, jst_ni, jst_o, jI_i, jcpy_out, w32_id, jdiv_nn] at * <;> first | done | omega | assumption) | (intros; first | rfl | (exfalso; omega) | ((repeat' apply And.intro) <;> first | assumption | rfl | omega | trivial))) -- o18 init.1
    · (rw [h0.1, h0.2]; exact ⟨runL_r 0 0 |>.2, orS0 _⟩) -- o19 init.2
    · (intro r l; omega) -- o20 init.3
theorem vX9_behind (a1 : Int) (a3 : Int) (a4 : Int) {h : AH} {e : CE} {u : Nat} (hc : cuX h e) (hv : vCE e) (hs : spX h e 178) (hu : a1 = u ∧ stU e u) (h3 : (0 ≤ a3 ∧ a3 < 178 ∧ isP e a3) ∧ 0 ≤ a4 ∧ a4 < 178 ∧ isP e a4) : OK (gX9_behind a1 a3 a4 h) (fun r => r = tgC e u a3 a4) := by
  unfold gX9_behind
  refine OK_jb (vX9_behind_l6 (e := e) (u := u) _ _ _ _ _ (by (first | assumption | omega | ((try dsimp only [jt2, jt3, jt4]); first | omega | (simp (disch := omega) only [jst_eq, jst_ne, jst_ni, jst_o, jI_i, jcpy_out, w32_id, jdiv_nn, jshr_k, jand_255] <;> first | done | omega | assumption)) | (intros; simp (disch := omega) only [jst_eq, jst_ne, jst_ni, jst_o, jI_i, jcpy_out, w32_id, jdiv_nn, *] <;> first | done | omega) | (intros; simp (disch := omega) only [jst_eq, jst_ne, jst_ni, jst_o, jI_i, jcpy_out, w32_id, jdiv_nn] at * <;> first | done | omega | assumption) | (intros; first | rfl | (exfalso; omega) | ((repeat' apply And.intro) <;> first | assumption | rfl | omega | trivial)))) (by (first | assumption | omega | ((try dsimp only [jt2, jt3, jt4]); first | omega | (simp (disch := omega) only [jst_eq, jst_ne, jst_ni, jst_o, jI_i, jcpy_out, w32_id, jdiv_nn, jshr_k, jand_255] <;> first | done | omega | assumption)) | (intros; simp (disch := omega) only [jst_eq, jst_ne, jst_ni, jst_o, jI_i, jcpy_out, w32_id, jdiv_nn, *] <;> first | done | omega) | (intros; simp (disch := omega) only [jst_eq, jst_ne, jst_ni, jst_o, jI_i, jcpy_out, w32_id, jdiv_nn] at * <;> first | done | omega | assumption) | (intros; first | rfl | (exfalso; omega) | ((repeat' apply And.intro) <;> first | assumption | rfl | omega | trivial)))) (by (first | assumption | omega | ((try dsimp only [jt2, jt3, jt4]); first | omega | (simp (disch := omega) only [jst_eq, jst_ne, jst_ni, jst_o, jI_i, jcpy_out, w32_id, jdiv_nn, jshr_k, jand_255] <;> first | done | omega | assumption)) | (intros; simp (disch := omega) only [jst_eq, jst_ne, jst_ni, jst_o, jI_i, jcpy_out, w32_id, jdiv_nn, *] <;> first | done | omega) | (intros; simp (disch := omega) only [jst_eq, jst_ne, jst_ni, jst_o, jI_i, jcpy_out, w32_id, jdiv_nn] at * <;> first | done | omega | assumption) | (intros; first | rfl | (exfalso; omega) | ((repeat' apply And.intro) <;> first | assumption | rfl | omega | trivial)))) (by (first | assumption | omega | ((try dsimp only [jt2, jt3, jt4]); first | omega | (simp (disch := omega) only [jst_eq, jst_ne, jst_ni, jst_o, jI_i, jcpy_out, w32_id, jdiv_nn, jshr_k, jand_255] <;> first | done | omega | assumption)) | (intros; simp (disch := omega) only [jst_eq, jst_ne, jst_ni, jst_o, jI_i, jcpy_out, w32_id, jdiv_nn, *] <;> first | done | omega) | (intros; simp (disch := omega) only [jst_eq, jst_ne, jst_ni, jst_o, jI_i, jcpy_out, w32_id, jdiv_nn] at * <;> first | done | omega | assumption) | (intros; first | rfl | (exfalso; omega) | ((repeat' apply And.intro) <;> first | assumption | rfl | omega | trivial)))) (by (first | assumption | omega | ((try dsimp only [jt2, jt3, jt4]); first | omega | (simp (disch := omega) only [jst_eq, jst_ne, jst_ni, jst_o, jI_i, jcpy_out, w32_id, jdiv_nn, jshr_k, jand_255] <;> first | done | omega | assumption)) | (intros; simp (disch := omega) only [jst_eq, jst_ne, jst_ni, jst_o, jI_i, jcpy_out, w32_id, jdiv_nn, *] <;> first | done | omega) | (intros; simp (disch := omega) only [jst_eq, jst_ne, jst_ni, jst_o, jI_i, jcpy_out, w32_id, jdiv_nn] at * <;> first | done | omega | assumption) | (intros; first | rfl | (exfalso; omega) | ((repeat' apply And.intro) <;> first | assumption | rfl | omega | trivial)))) (by exact ⟨rfl, rfl⟩)) (fun o1 r1 => ?_)
  rcases o1 with o3 | o4
  · skip
    have r2 := r1; clear r1
    dsimp only [Sum.elim_inl, Sum.elim_inr] at r2
    try dsimp only [Sum.elim_inl, Sum.elim_inr, jt2, jt3, jt4, jt5, jt6, jt7, jt8] at r2
    have no1 := r2
    clear r2
    try simp (disch := omega) only [jst_eq, jst_ne, jst_ni, jI_i, jcmp_lt, jcmp_gt, w32_id, jcpy_out, Sum.elim_inl, Sum.elim_inr, jt2, jt3, jt4, jt5, jt6, jt7, jt8] at no1
    refine OK_jml ?_
    refine OK_some ?_
    try dsimp only [Sum.elim_inl, Sum.elim_inr, jt2, jt3, jt4, jt5, jt6, jt7, jt8]
    exact (tgC_n (by assumption)).symm -- o7 e1
  · skip
    have r3 := r1; clear r1
    dsimp only [Sum.elim_inl, Sum.elim_inr] at r3
    refine OK_jmr ?_
    rcases o4 with o5 | o6
    · skip
      have r4 := r3; clear r3
      dsimp only [Sum.elim_inl, Sum.elim_inr] at r4
      try dsimp only [Sum.elim_inl, Sum.elim_inr, jt2, jt3, jt4, jt5, jt6, jt7, jt8] at r4
      have no2 := r4
      clear r4
      try simp (disch := omega) only [jst_eq, jst_ne, jst_ni, jI_i, jcmp_lt, jcmp_gt, w32_id, jcpy_out, Sum.elim_inl, Sum.elim_inr, jt2, jt3, jt4, jt5, jt6, jt7, jt8] at no2
      refine OK_jml ?_
      refine OK_some ?_
      try dsimp only [Sum.elim_inl, Sum.elim_inr, jt2, jt3, jt4, jt5, jt6, jt7, jt8]
      exact (tgC_n (by assumption)).symm -- o8 e2
    · skip
      have r5 := r3; clear r3
      dsimp only [Sum.elim_inl, Sum.elim_inr] at r5
      try dsimp only [Sum.elim_inl, Sum.elim_inr, jt2, jt3, jt4, jt5, jt6, jt7, jt8] at r5
      have ye3 := r5
      clear r5
      try simp (disch := omega) only [jst_eq, jst_ne, jst_ni, jI_i, jcmp_lt, jcmp_gt, w32_id, jcpy_out, Sum.elim_inl, Sum.elim_inr, jt2, jt3, jt4, jt5, jt6, jt7, jt8] at ye3
      refine OK_jmr ?_
      refine OK_some ?_
      try dsimp only [Sum.elim_inl, Sum.elim_inr, jt2, jt3, jt4, jt5, jt6, jt7, jt8]
      (have z : okU e u a3 a4 ∧ o6 = ((nxC e u a3 a4 : Nat) : Int) := (by assumption); rw [z.2, tgC_y z.1]) -- o9 e3
theorem vX9_behindWord_l53 (i1 : Int) (i3 : Int) (i4 : Int) (i6 : Int) (i7 : Int) (i8 : Int) (a90 : Int) {h : AH} {e : CE} (hc : cuX h e) (hr : 0 ≤ i7 ∧ i7 < e.1 ∧ e.1 ≤ 8) (h8 : 0 ≤ i8 ∧ i8 + i3 ≤ e.2.2.2.2 i7 ∧ e.2.2.2.2 i7 ≤ 10 ∧ 0 ≤ i6 ∧ i6 + i3 ≤ e.2.2.2.2 0 ∧ e.2.2.2.2 0 ≤ 10) (h0 : a90 = 0 ∧ 0 ≤ i3) : OK (gX9_behindWord_l53 i1 i3 i4 i6 i7 i8 a90 h) (Sum.elim (fun _ => ∃ k, 0 ≤ k ∧ k < i3 ∧ e.2.2.1 i7 (i8 + k) ≠ e.2.2.1 0 (i6 + k)) (fun _ => ∀ k, 0 ≤ k → k < i3 → e.2.2.1 i7 (i8 + k) = e.2.2.1 0 (i6 + k))) := by
  unfold gX9_behindWord_l53
  refine OK_jit (I := (fun (a9 : Int) => (0 ≤ a9 ∧ a9 ≤ i3) ∧ (∀ k, 0 ≤ k → k < a9 → e.2.2.1 i7 (i8 + k) = e.2.2.1 0 (i6 + k)))) (m := (fun (a9 : Int) => (i3 - a9).toNat)) ?_ ?_
  · intro a9 hs
    try dsimp only at hs
    obtain ⟨q0, q1⟩ := hs
    unfold gX9_behindWord_b53
    obtain ⟨_, _, _, c4⟩ := hc.2 i7 hr.1 hr.2.1
    obtain ⟨_, _, _, d4⟩ := hc.2 0 (by decide) (by omega)
    have W1 : w32 (w32 (w32 (10 * i7) + i8) + a9) = 10 * i7 + (i8 + a9) := by { rw [w32_id (x := 10 * i7) (by omega) (by omega), w32_id (x := 10 * i7 + i8) (by omega) (by omega), w32_id (by omega) (by omega)]; omega }
    have W2 : w32 (i6 + a9) = 10 * 0 + (i6 + a9) := by { rw [w32_id (by omega) (by omega)]; omega }
    rw [W1, W2]
    refine OK_if (fun c1 => ?_) (fun c1 => ?_)
    · skip
      try simp (disch := omega) only [jst_eq, jst_ne, jst_ni, jI_i, jcmp_lt, jcmp_gt, w32_id, jcpy_out, Sum.elim_inl, Sum.elim_inr, jt2, jt3, jt4, jt5, jt6, jt7, jt8] at c1
      refine OK_ir ?_
      exact fun k k0 k1 => q1 k k0 (by omega) -- o1 e1
    · skip
      try simp (disch := omega) only [jst_eq, jst_ne, jst_ni, jI_i, jcmp_lt, jcmp_gt, w32_id, jcpy_out, Sum.elim_inl, Sum.elim_inr, jt2, jt3, jt4, jt5, jt6, jt7, jt8] at c1
      have L1 := c4 (i8 + a9) (by omega) (by omega)
      have L2 := d4 (i6 + a9) (by omega) (by omega)
      refine OK_jg (by (first | assumption | omega | ((try dsimp only [jt2, jt3, jt4]); first | omega | (simp (disch := omega) only [jst_eq, jst_ne, jst_ni, jst_o, jI_i, jcpy_out, w32_id, jdiv_nn, jshr_k, jand_255] <;> first | done | omega | assumption)) | (intros; simp (disch := omega) only [jst_eq, jst_ne, jst_ni, jst_o, jI_i, jcpy_out, w32_id, jdiv_nn, *] <;> first | done | omega) | (intros; simp (disch := omega) only [jst_eq, jst_ne, jst_ni, jst_o, jI_i, jcpy_out, w32_id, jdiv_nn] at * <;> first | done | omega | assumption) | (intros; first | rfl | (exfalso; omega) | ((repeat' apply And.intro) <;> first | assumption | rfl | omega | trivial)))) ?_ -- o2
      refine OK_jg (by (first | assumption | omega | ((try dsimp only [jt2, jt3, jt4]); first | omega | (simp (disch := omega) only [jst_eq, jst_ne, jst_ni, jst_o, jI_i, jcpy_out, w32_id, jdiv_nn, jshr_k, jand_255] <;> first | done | omega | assumption)) | (intros; simp (disch := omega) only [jst_eq, jst_ne, jst_ni, jst_o, jI_i, jcpy_out, w32_id, jdiv_nn, *] <;> first | done | omega) | (intros; simp (disch := omega) only [jst_eq, jst_ne, jst_ni, jst_o, jI_i, jcpy_out, w32_id, jdiv_nn] at * <;> first | done | omega | assumption) | (intros; first | rfl | (exfalso; omega) | ((repeat' apply And.intro) <;> first | assumption | rfl | omega | trivial)))) ?_ -- o3
      refine OK_if (fun c2 => ?_) (fun c2 => ?_)
      · skip
        try simp (disch := omega) only [jst_eq, jst_ne, jst_ni, jI_i, jcmp_lt, jcmp_gt, w32_id, jcpy_out, Sum.elim_inl, Sum.elim_inr, jt2, jt3, jt4, jt5, jt6, jt7, jt8] at c2
        refine OK_jlx (fun x21 ex21 => ?_)
        try simp (disch := omega) only [jst_eq, jst_ne, jst_ni, jI_i, jcmp_lt, jcmp_gt, w32_id, jcpy_out, Sum.elim_inl, Sum.elim_inr, jt2, jt3, jt4, jt5, jt6, jt7, jt8] at ex21
        refine OK_il ?_ ?_
        · try dsimp only [Sum.elim_inl, Sum.elim_inr, jt2, jt3, jt4, jt5, jt6, jt7, jt8]
          refine ⟨?_, ?_⟩
          · (first | assumption | omega | ((try dsimp only [jt2, jt3, jt4]); first | omega | (simp (disch := omega) only [jst_eq, jst_ne, jst_ni, jst_o, jI_i, jcpy_out, w32_id, jdiv_nn, jshr_k, jand_255] <;> first | done | omega | assumption)) | (intros; simp (disch := omega) only [jst_eq, jst_ne, jst_ni, jst_o, jI_i, jcpy_out, w32_id, jdiv_nn, *] <;> first | done | omega) | (intros; simp (disch := omega) only [jst_eq, jst_ne, jst_ni, jst_o, jI_i, jcpy_out, w32_id, jdiv_nn] at * <;> first | done | omega | assumption) | (intros; first | rfl | (exfalso; omega) | ((repeat' apply And.intro) <;> first | assumption | rfl | omega | trivial))) -- o4 e2i.1
          · (intro k k0 k1; by_cases y : k = a9; { rw [y]; omega }; { exact q1 k k0 (by omega) }) -- o5 e2i.2
        · (first | assumption | omega | ((try dsimp only [jt2, jt3, jt4]); first | omega | (simp (disch := omega) only [jst_eq, jst_ne, jst_ni, jst_o, jI_i, jcpy_out, w32_id, jdiv_nn, jshr_k, jand_255] <;> first | done | omega | assumption)) | (intros; simp (disch := omega) only [jst_eq, jst_ne, jst_ni, jst_o, jI_i, jcpy_out, w32_id, jdiv_nn, *] <;> first | done | omega) | (intros; simp (disch := omega) only [jst_eq, jst_ne, jst_ni, jst_o, jI_i, jcpy_out, w32_id, jdiv_nn] at * <;> first | done | omega | assumption) | (intros; first | rfl | (exfalso; omega) | ((repeat' apply And.intro) <;> first | assumption | rfl | omega | trivial))) -- o6 e2m
      · skip
        try simp (disch := omega) only [jst_eq, jst_ne, jst_ni, jI_i, jcmp_lt, jcmp_gt, w32_id, jcpy_out, Sum.elim_inl, Sum.elim_inr, jt2, jt3, jt4, jt5, jt6, jt7, jt8] at c2
        refine OK_ir ?_
        exact ⟨a9, q0.1, by omega, fun z => by omega⟩ -- o7 e3
  · try dsimp only [Sum.elim_inl, Sum.elim_inr, jt2, jt3, jt4, jt5, jt6, jt7, jt8]
    refine ⟨?_, ?_⟩
    · (first | assumption | omega | ((try dsimp only [jt2, jt3, jt4]); first | omega | (simp (disch := omega) only [jst_eq, jst_ne, jst_ni, jst_o, jI_i, jcpy_out, w32_id, jdiv_nn, jshr_k, jand_255] <;> first | done | omega | assumption)) | (intros; simp (disch := omega) only [jst_eq, jst_ne, jst_ni, jst_o, jI_i, jcpy_out, w32_id, jdiv_nn, *] <;> first | done | omega) | (intros; simp (disch := omega) only [jst_eq, jst_ne, jst_ni, jst_o, jI_i, jcpy_out, w32_id, jdiv_nn] at * <;> first | done | omega | assumption) | (intros; first | rfl | (exfalso; omega) | ((repeat' apply And.intro) <;> first | assumption | rfl | omega | trivial))) -- o8 init.1
    · (intro k k0 k1; omega) -- o9 init.2
theorem vX9_behindWord_l14 (i1 : Int) (i3 : Int) (i6 : Int) (a40 : Int) (a70 : Int) {h : AH} {e : CE} {u : Nat} (hc : cuX h e) (hv : vCE e) (hu : i1 = u ∧ stU e u) (h3 : 0 ≤ i3 ∧ i3 ≤ 3) (h6 : i6 = ((nb u 0 : Nat) : Int)) (h0 : a40 = 0 ∧ a70 = 0) : OK (gX9_behindWord_l14 i1 i3 i6 a40 a70 h) (Sum.elim (fun _ => ¬ okL e u i3) (Sum.elim (fun _ => ¬ okL e u i3) (fun v => okL e u i3 ∧ v = ((nxL e u i3 : Nat) : Int)))) := by
  have n8 := hv.1
  have ul := stU_lt hv hu.2
  unfold gX9_behindWord_l14
  refine OK_jit (I := (fun (s : Int × Int) => jt2 s fun a4 a7 => (0 ≤ a7 ∧ a7 ≤ e.1) ∧ (jr64 a4 ∧ ∀ j, j < 16 → nb (uL a4) j = if j < a7.toNat then fnL u i3 j % 16 else 0) ∧ (∀ r : Nat, (r : Int) < a7 → okL1 e u i3 r))) (m := (fun (s : Int × Int) => jt2 s fun a4 a7 => (e.1 - a7).toNat)) ?_ ?_
  · intro s hs
    obtain ⟨a4, a7⟩ := s
    dsimp only [Sum.elim_inl, Sum.elim_inr, jt2, jt3, jt4, jt5, jt6, jt7, jt8] at hs
    obtain ⟨q0, q1, q2⟩ := hs
    unfold gX9_behindWord_b14
    refine OK_jt2 ?_
    have c0 := hc.1
    have e7 : ((a7.toNat : Nat) : Int) = a7 := by omega
    refine OK_if (fun c1 => ?_) (fun c1 => ?_)
    · skip
      try simp (disch := omega) only [jst_eq, jst_ne, jst_ni, jI_i, jcmp_lt, jcmp_gt, w32_id, jcpy_out, Sum.elim_inl, Sum.elim_inr, jt2, jt3, jt4, jt5, jt6, jt7, jt8] at c1
      refine OK_ir ?_
      (have en : a7 = e.1 := (by omega); rw [en] at q1 q2; exact ⟨q2, st_of hv (fun r l => by have := (q2 r l).1; unfold fnL; omega) q1.1 q1.2⟩) -- o1 e1
    · skip
      try simp (disch := omega) only [jst_eq, jst_ne, jst_ni, jI_i, jcmp_lt, jcmp_gt, w32_id, jcpy_out, Sum.elim_inl, Sum.elim_inr, jt2, jt3, jt4, jt5, jt6, jt7, jt8] at c1
      obtain ⟨r1, r2, _, _⟩ := hc.2 a7 q0.1 (by omega)
      obtain ⟨s1, s2, _, _⟩ := hv.2 a7 q0.1 (by omega)
      have s20 := (hv.2 0 (by decide) (by omega)).2.1
      refine OK_jb (vX9_placeIn (u := u) _ _ (by exact ⟨hu.1, ul⟩) (by (first | assumption | omega | ((try dsimp only [jt2, jt3, jt4]); first | omega | (simp (disch := omega) only [jst_eq, jst_ne, jst_ni, jst_o, jI_i, jcpy_out, w32_id, jdiv_nn, jshr_k, jand_255] <;> first | done | omega | assumption)) | (intros; simp (disch := omega) only [jst_eq, jst_ne, jst_ni, jst_o, jI_i, jcpy_out, w32_id, jdiv_nn, *] <;> first | done | omega) | (intros; simp (disch := omega) only [jst_eq, jst_ne, jst_ni, jst_o, jI_i, jcpy_out, w32_id, jdiv_nn] at * <;> first | done | omega | assumption) | (intros; first | rfl | (exfalso; omega) | ((repeat' apply And.intro) <;> first | assumption | rfl | omega | trivial))))) (fun v11 r1 => ?_)
      try dsimp only [Sum.elim_inl, Sum.elim_inr, jt2, jt3, jt4, jt5, jt6, jt7, jt8] at r1
      have v1 := r1
      clear r1
      try simp (disch := omega) only [jst_eq, jst_ne, jst_ni, jI_i, jcmp_lt, jcmp_gt, w32_id, jcpy_out, Sum.elim_inl, Sum.elim_inr, jt2, jt3, jt4, jt5, jt6, jt7, jt8] at v1
      have nl := nb_lt u a7.toNat
      have V11 : v11 = ((nb u a7.toNat : Nat) : Int) := by { first | exact v1 | assumption }
      have W3 : w32 (v11 + i3) = v11 + i3 := w32_id (by omega) (by omega)
      rw [W3]
      refine OK_jg (by (first | assumption | omega | ((try dsimp only [jt2, jt3, jt4]); first | omega | (simp (disch := omega) only [jst_eq, jst_ne, jst_ni, jst_o, jI_i, jcpy_out, w32_id, jdiv_nn, jshr_k, jand_255] <;> first | done | omega | assumption)) | (intros; simp (disch := omega) only [jst_eq, jst_ne, jst_ni, jst_o, jI_i, jcpy_out, w32_id, jdiv_nn, *] <;> first | done | omega) | (intros; simp (disch := omega) only [jst_eq, jst_ne, jst_ni, jst_o, jI_i, jcpy_out, w32_id, jdiv_nn] at * <;> first | done | omega | assumption) | (intros; first | rfl | (exfalso; omega) | ((repeat' apply And.intro) <;> first | assumption | rfl | omega | trivial)))) ?_ -- o4
      refine OK_if (fun c2 => ?_) (fun c2 => ?_)
      · skip
        try simp (disch := omega) only [jst_eq, jst_ne, jst_ni, jI_i, jcmp_lt, jcmp_gt, w32_id, jcpy_out, Sum.elim_inl, Sum.elim_inr, jt2, jt3, jt4, jt5, jt6, jt7, jt8] at c2
        have f0 : i6 + i3 ≤ e.2.2.2.2 0 := by { by_cases y : a7 = 0; { rw [h6]; rw [y] at V11 r2 c2; have : nb u 0 = nb u (0 : Int).toNat := rfl; omega }; { have z := (q2 0 (by omega)).1; rw [h6]; exact z } }
        refine OK_jb (vX9_behindWord_l53 (e := e) _ _ _ _ _ _ _ (by (first | assumption | omega | ((try dsimp only [jt2, jt3, jt4]); first | omega | (simp (disch := omega) only [jst_eq, jst_ne, jst_ni, jst_o, jI_i, jcpy_out, w32_id, jdiv_nn, jshr_k, jand_255] <;> first | done | omega | assumption)) | (intros; simp (disch := omega) only [jst_eq, jst_ne, jst_ni, jst_o, jI_i, jcpy_out, w32_id, jdiv_nn, *] <;> first | done | omega) | (intros; simp (disch := omega) only [jst_eq, jst_ne, jst_ni, jst_o, jI_i, jcpy_out, w32_id, jdiv_nn] at * <;> first | done | omega | assumption) | (intros; first | rfl | (exfalso; omega) | ((repeat' apply And.intro) <;> first | assumption | rfl | omega | trivial)))) (by omega) (by omega) (by exact ⟨rfl, h3.1⟩)) (fun o13 r2 => ?_)
        rcases o13 with o15 | o16
        · skip
          have r3 := r2; clear r2
          dsimp only [Sum.elim_inl, Sum.elim_inr] at r3
          try dsimp only [Sum.elim_inl, Sum.elim_inr, jt2, jt3, jt4, jt5, jt6, jt7, jt8] at r3
          have no2 := r3
          clear r3
          try simp (disch := omega) only [jst_eq, jst_ne, jst_ni, jI_i, jcmp_lt, jcmp_gt, w32_id, jcpy_out, Sum.elim_inl, Sum.elim_inr, jt2, jt3, jt4, jt5, jt6, jt7, jt8] at no2
          refine OK_jml ?_
          refine OK_ir ?_
          (intro o; obtain ⟨k, k0, k1, k2⟩ := no2; have z := (o a7.toNat (by omega)).2 k k0 k1; rw [e7, ← V11, ← h6] at z; exact k2 z) -- o9 e2
        · skip
          have r4 := r2; clear r2
          dsimp only [Sum.elim_inl, Sum.elim_inr] at r4
          try dsimp only [Sum.elim_inl, Sum.elim_inr, jt2, jt3, jt4, jt5, jt6, jt7, jt8] at r4
          have ye3 := r4
          clear r4
          try simp (disch := omega) only [jst_eq, jst_ne, jst_ni, jI_i, jcmp_lt, jcmp_gt, w32_id, jcpy_out, Sum.elim_inl, Sum.elim_inr, jt2, jt3, jt4, jt5, jt6, jt7, jt8] at ye3
          refine OK_jmr ?_
          refine OK_jlx (fun x17 ex17 => ?_)
          try simp (disch := omega) only [jst_eq, jst_ne, jst_ni, jI_i, jcmp_lt, jcmp_gt, w32_id, jcpy_out, Sum.elim_inl, Sum.elim_inr, jt2, jt3, jt4, jt5, jt6, jt7, jt8] at ex17
          have G7 : v11 + i3 = ((fnL u i3 a7.toNat % 16 : Nat) : Int) := by { unfold fnL; rw [← V11]; omega }
          refine OK_jlx (fun x18 ex18 => ?_)
          try simp (disch := omega) only [jst_eq, jst_ne, jst_ni, jI_i, jcmp_lt, jcmp_gt, w32_id, jcpy_out, Sum.elim_inl, Sum.elim_inr, jt2, jt3, jt4, jt5, jt6, jt7, jt8] at ex18
          refine OK_il ?_ ?_
          · try dsimp only [Sum.elim_inl, Sum.elim_inr, jt2, jt3, jt4, jt5, jt6, jt7, jt8]
            refine ⟨?_, ?_, ?_⟩
            · (first | assumption | omega | ((try dsimp only [jt2, jt3, jt4]); first | omega | (simp (disch := omega) only [jst_eq, jst_ne, jst_ni, jst_o, jI_i, jcpy_out, w32_id, jdiv_nn, jshr_k, jand_255] <;> first | done | omega | assumption)) | (intros; simp (disch := omega) only [jst_eq, jst_ne, jst_ni, jst_o, jI_i, jcpy_out, w32_id, jdiv_nn, *] <;> first | done | omega) | (intros; simp (disch := omega) only [jst_eq, jst_ne, jst_ni, jst_o, jI_i, jcpy_out, w32_id, jdiv_nn] at * <;> first | done | omega | assumption) | (intros; first | rfl | (exfalso; omega) | ((repeat' apply And.intro) <;> first | assumption | rfl | omega | trivial))) -- o10 e3i.1
            · (rw [ex17, G7, show 4 * a7 = ((4 * a7.toNat : Nat) : Int) by omega, show x18.toNat = a7.toNat + 1 by omega]; exact ⟨jorL_r _ _, orS (f := fun j => fnL u i3 j % 16) (by omega) (fun j _ => Nat.mod_lt _ (by decide)) q1.2⟩) -- o11 e3i.2
            · (intro r l; by_cases y : (r : Int) = a7; { unfold okL1; rw [y, show r = a7.toNat by omega, ← V11, ← h6]; exact ⟨by omega, ye3⟩ }; { exact q2 r (by omega) }) -- o12 e3i.3
          · (first | assumption | omega | ((try dsimp only [jt2, jt3, jt4]); first | omega | (simp (disch := omega) only [jst_eq, jst_ne, jst_ni, jst_o, jI_i, jcpy_out, w32_id, jdiv_nn, jshr_k, jand_255] <;> first | done | omega | assumption)) | (intros; simp (disch := omega) only [jst_eq, jst_ne, jst_ni, jst_o, jI_i, jcpy_out, w32_id, jdiv_nn, *] <;> first | done | omega) | (intros; simp (disch := omega) only [jst_eq, jst_ne, jst_ni, jst_o, jI_i, jcpy_out, w32_id, jdiv_nn] at * <;> first | done | omega | assumption) | (intros; first | rfl | (exfalso; omega) | ((repeat' apply And.intro) <;> first | assumption | rfl | omega | trivial))) -- o13 e3m
      · skip
        try simp (disch := omega) only [jst_eq, jst_ne, jst_ni, jI_i, jcmp_lt, jcmp_gt, w32_id, jcpy_out, Sum.elim_inl, Sum.elim_inr, jt2, jt3, jt4, jt5, jt6, jt7, jt8] at c2
        refine OK_ir ?_
        (intro o; have z := (o a7.toNat (by omega)).1; rw [e7] at z; omega) -- o14 e4
  · try dsimp only [Sum.elim_inl, Sum.elim_inr, jt2, jt3, jt4, jt5, jt6, jt7, jt8]
    refine ⟨?_, ?_, ?_⟩
    · (first | assumption | omega | ((try dsimp only [jt2, jt3, jt4]); first | omega | (simp (disch := omega) only [jst_eq, jst_ne, jst_ni, jst_o, jI_i, jcpy_out, w32_id, jdiv_nn, jshr_k, jand_255] <;> first | done | omega | assumption)) | (intros; simp (disch := omega) only [jst_eq, jst_ne, jst_ni, jst_o, jI_i, jcpy_out, w32_id, jdiv_nn, *] <;> first | done | omega) | (intros; simp (disch := omega) only [jst_eq, jst_ne, jst_ni, jst_o, jI_i, jcpy_out, w32_id, jdiv_nn] at * <;> first | done | omega | assumption) | (intros; first | rfl | (exfalso; omega) | ((repeat' apply And.intro) <;> first | assumption | rfl | omega | trivial))) -- o15 init.1
    · (rw [h0.1, h0.2]; exact ⟨runL_r 0 0 |>.2, orS0 _⟩) -- o16 init.2
    · (intro r l; omega) -- o17 init.3
theorem vX9_behindWord (a1 : Int) (a3 : Int) {h : AH} {e : CE} {u : Nat} (hc : cuX h e) (hv : vCE e) (hu : a1 = u ∧ stU e u) (h3 : 0 ≤ a3 ∧ a3 ≤ 3) : OK (gX9_behindWord a1 a3 h) (fun r => r = tgL e u a3) := by
  have ul := stU_lt hv hu.2
  unfold gX9_behindWord
  refine OK_jb (vX9_placeIn (u := u) _ _ (by exact ⟨hu.1, ul⟩) (by (first | assumption | omega | ((try dsimp only [jt2, jt3, jt4]); first | omega | (simp (disch := omega) only [jst_eq, jst_ne, jst_ni, jst_o, jI_i, jcpy_out, w32_id, jdiv_nn, jshr_k, jand_255] <;> first | done | omega | assumption)) | (intros; simp (disch := omega) only [jst_eq, jst_ne, jst_ni, jst_o, jI_i, jcpy_out, w32_id, jdiv_nn, *] <;> first | done | omega) | (intros; simp (disch := omega) only [jst_eq, jst_ne, jst_ni, jst_o, jI_i, jcpy_out, w32_id, jdiv_nn] at * <;> first | done | omega | assumption) | (intros; first | rfl | (exfalso; omega) | ((repeat' apply And.intro) <;> first | assumption | rfl | omega | trivial))))) (fun v2 r1 => ?_)
  try dsimp only [Sum.elim_inl, Sum.elim_inr, jt2, jt3, jt4, jt5, jt6, jt7, jt8] at r1
  have v1 := r1
  clear r1
  try simp (disch := omega) only [jst_eq, jst_ne, jst_ni, jI_i, jcmp_lt, jcmp_gt, w32_id, jcpy_out, Sum.elim_inl, Sum.elim_inr, jt2, jt3, jt4, jt5, jt6, jt7, jt8] at v1
  refine OK_jb (vX9_behindWord_l14 (e := e) (u := u) _ _ _ _ _ (by (first | assumption | omega | ((try dsimp only [jt2, jt3, jt4]); first | omega | (simp (disch := omega) only [jst_eq, jst_ne, jst_ni, jst_o, jI_i, jcpy_out, w32_id, jdiv_nn, jshr_k, jand_255] <;> first | done | omega | assumption)) | (intros; simp (disch := omega) only [jst_eq, jst_ne, jst_ni, jst_o, jI_i, jcpy_out, w32_id, jdiv_nn, *] <;> first | done | omega) | (intros; simp (disch := omega) only [jst_eq, jst_ne, jst_ni, jst_o, jI_i, jcpy_out, w32_id, jdiv_nn] at * <;> first | done | omega | assumption) | (intros; first | rfl | (exfalso; omega) | ((repeat' apply And.intro) <;> first | assumption | rfl | omega | trivial)))) (by (first | assumption | omega | ((try dsimp only [jt2, jt3, jt4]); first | omega | (simp (disch := omega) only [jst_eq, jst_ne, jst_ni, jst_o, jI_i, jcpy_out, w32_id, jdiv_nn, jshr_k, jand_255] <;> first | done | omega | assumption)) | (intros; simp (disch := omega) only [jst_eq, jst_ne, jst_ni, jst_o, jI_i, jcpy_out, w32_id, jdiv_nn, *] <;> first | done | omega) | (intros; simp (disch := omega) only [jst_eq, jst_ne, jst_ni, jst_o, jI_i, jcpy_out, w32_id, jdiv_nn] at * <;> first | done | omega | assumption) | (intros; first | rfl | (exfalso; omega) | ((repeat' apply And.intro) <;> first | assumption | rfl | omega | trivial)))) (by (first | assumption | omega | ((try dsimp only [jt2, jt3, jt4]); first | omega | (simp (disch := omega) only [jst_eq, jst_ne, jst_ni, jst_o, jI_i, jcpy_out, w32_id, jdiv_nn, jshr_k, jand_255] <;> first | done | omega | assumption)) | (intros; simp (disch := omega) only [jst_eq, jst_ne, jst_ni, jst_o, jI_i, jcpy_out, w32_id, jdiv_nn, *] <;> first | done | omega) | (intros; simp (disch := omega) only [jst_eq, jst_ne, jst_ni, jst_o, jI_i, jcpy_out, w32_id, jdiv_nn] at * <;> first | done | omega | assumption) | (intros; first | rfl | (exfalso; omega) | ((repeat' apply And.intro) <;> first | assumption | rfl | omega | trivial)))) (by (first | assumption | omega | ((try dsimp only [jt2, jt3, jt4]); first | omega | (simp (disch := omega) only [jst_eq, jst_ne, jst_ni, jst_o, jI_i, jcpy_out, w32_id, jdiv_nn, jshr_k, jand_255] <;> first | done | omega | assumption)) | (intros; simp (disch := omega) only [jst_eq, jst_ne, jst_ni, jst_o, jI_i, jcpy_out, w32_id, jdiv_nn, *] <;> first | done | omega) | (intros; simp (disch := omega) only [jst_eq, jst_ne, jst_ni, jst_o, jI_i, jcpy_out, w32_id, jdiv_nn] at * <;> first | done | omega | assumption) | (intros; first | rfl | (exfalso; omega) | ((repeat' apply And.intro) <;> first | assumption | rfl | omega | trivial)))) (by (first | assumption | omega | ((try dsimp only [jt2, jt3, jt4]); first | omega | (simp (disch := omega) only [jst_eq, jst_ne, jst_ni, jst_o, jI_i, jcpy_out, w32_id, jdiv_nn, jshr_k, jand_255] <;> first | done | omega | assumption)) | (intros; simp (disch := omega) only [jst_eq, jst_ne, jst_ni, jst_o, jI_i, jcpy_out, w32_id, jdiv_nn, *] <;> first | done | omega) | (intros; simp (disch := omega) only [jst_eq, jst_ne, jst_ni, jst_o, jI_i, jcpy_out, w32_id, jdiv_nn] at * <;> first | done | omega | assumption) | (intros; first | rfl | (exfalso; omega) | ((repeat' apply And.intro) <;> first | assumption | rfl | omega | trivial)))) (by exact ⟨rfl, rfl⟩)) (fun o3 r2 => ?_)
  rcases o3 with o5 | o6
  · skip
    have r3 := r2; clear r2
    dsimp only [Sum.elim_inl, Sum.elim_inr] at r3
    try dsimp only [Sum.elim_inl, Sum.elim_inr, jt2, jt3, jt4, jt5, jt6, jt7, jt8] at r3
    have no2 := r3
    clear r3
    try simp (disch := omega) only [jst_eq, jst_ne, jst_ni, jI_i, jcmp_lt, jcmp_gt, w32_id, jcpy_out, Sum.elim_inl, Sum.elim_inr, jt2, jt3, jt4, jt5, jt6, jt7, jt8] at no2
    refine OK_jml ?_
    refine OK_some ?_
    try dsimp only [Sum.elim_inl, Sum.elim_inr, jt2, jt3, jt4, jt5, jt6, jt7, jt8]
    exact (tgL_n (by assumption)).symm -- o9 e1
  · skip
    have r4 := r2; clear r2
    dsimp only [Sum.elim_inl, Sum.elim_inr] at r4
    refine OK_jmr ?_
    rcases o6 with o7 | o8
    · skip
      have r5 := r4; clear r4
      dsimp only [Sum.elim_inl, Sum.elim_inr] at r5
      try dsimp only [Sum.elim_inl, Sum.elim_inr, jt2, jt3, jt4, jt5, jt6, jt7, jt8] at r5
      have no3 := r5
      clear r5
      try simp (disch := omega) only [jst_eq, jst_ne, jst_ni, jI_i, jcmp_lt, jcmp_gt, w32_id, jcpy_out, Sum.elim_inl, Sum.elim_inr, jt2, jt3, jt4, jt5, jt6, jt7, jt8] at no3
      refine OK_jml ?_
      refine OK_some ?_
      try dsimp only [Sum.elim_inl, Sum.elim_inr, jt2, jt3, jt4, jt5, jt6, jt7, jt8]
      exact (tgL_n (by assumption)).symm -- o10 e2
    · skip
      have r6 := r4; clear r4
      dsimp only [Sum.elim_inl, Sum.elim_inr] at r6
      try dsimp only [Sum.elim_inl, Sum.elim_inr, jt2, jt3, jt4, jt5, jt6, jt7, jt8] at r6
      have ye4 := r6
      clear r6
      try simp (disch := omega) only [jst_eq, jst_ne, jst_ni, jI_i, jcmp_lt, jcmp_gt, w32_id, jcpy_out, Sum.elim_inl, Sum.elim_inr, jt2, jt3, jt4, jt5, jt6, jt7, jt8] at ye4
      refine OK_jmr ?_
      refine OK_some ?_
      try dsimp only [Sum.elim_inl, Sum.elim_inr, jt2, jt3, jt4, jt5, jt6, jt7, jt8]
      (have z : okL e u a3 ∧ o8 = ((nxL e u a3 : Nat) : Int) := (by assumption); rw [z.2, tgL_y z.1]) -- o11 e3

