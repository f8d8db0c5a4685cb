/-! m's rows of acts: told, the fifth act -/
theorem vX14_tellRow_l29 (i1 : Int) (a40 : Int) (a50 : Int) {h0 : AH} {p1 p2 p3 p4 p8 k : Int} {cd : Int → Nat} {L : Nat} (hk : TK h0 p1 p2 p3 p4 p8) (hf : FUL (h0 p1) (h0 p2) (h0 p3) (h0 p4) cd (h0 871) L) (hL : L ≤ 5) (h5 : -1 ≤ a50 ∧ a50 + 1 < L ∧ a50 ≤ 3 ∧ a40 = k ∧ h0 871 (a50 + 1) ≤ k ∧ k < h0 871 (a50 + 2)) : OK (gX14_tellRow_l29 i1 a40 a50 h0) (fun h' => (∀ j : Nat, (j : Int) ≤ a50 → h' 850 j = ((cd k / 18 ^ (a50 - j).toNat % 18 : Nat) : Int)) ∧ (∀ a s, ¬ (a = 850 ∧ 0 ≤ s ∧ s < 4) → h' a s = h0 a s)) := by
  have hk' := hk
  obtain ⟨⟨k1, k2, k3, k4, k8⟩, ⟨s1, s2, s3, s4, s8⟩, z1, z2, z3, z4, z8⟩ := hk
  unfold gX14_tellRow_l29
  refine OK_jit (I := (fun (s : Int × Int × AH) => jt3 s fun a4 a5 h => (-1 ≤ a5 ∧ a5 ≤ a50) ∧ (h0 871 (a5 + 1) ≤ a4 ∧ a4 < h0 871 (a5 + 2)) ∧ (cd a4 = cd k / 18 ^ (a50 - a5).toNat) ∧ (∀ j : Nat, a5 < j → (j : Int) ≤ a50 → h 850 j = ((cd k / 18 ^ (a50 - j).toNat % 18 : Nat) : Int)) ∧ (∀ a s, ¬ (a = 850 ∧ 0 ≤ s ∧ s < 4) → h a s = h0 a s))) (m := (fun (s : Int × Int × AH) => jt3 s fun a4 a5 h => (a5 + 1).toNat)) ?_ ?_
  · intro s hs
    obtain ⟨a4, a5, h⟩ := s
    dsimp only [Sum.elim_inl, Sum.elim_inr, jt2, jt3, jt4, jt5, jt6, jt7, jt8] at hs
    obtain ⟨q0, q1, q2, q3, q4⟩ := hs
    unfold gX14_tellRow_b29
    refine OK_jt3 ?_
    have r3 : h 454 143 = p3 := by rw [q4 _ _ (by omega)]; exact k3
    have r4 : h 454 144 = p4 := by rw [q4 _ _ (by omega)]; exact k4
    have i3 : h p3 (-2) = 101 ∧ h p3 (-1) = 111152 := by rw [q4 _ _ (by omega), q4 _ _ (by omega)]; exact s3
    have i4 : h p4 (-2) = 103 ∧ h p4 (-1) = 111152 := by rw [q4 _ _ (by omega), q4 _ _ (by omega)]; exact s4
    rw [r4]
    have sn : 0 ≤ a5 → sndL (h0 p1) (h0 p2) (h0 p3) (h0 p4) cd (h0 871) (a5 + 1).toNat a4 := fun l => hf.2.2.1 (a5 + 1).toNat (by omega) a4 (by rw [show (((a5 + 1).toNat : Nat) : Int) = a5 + 1 by omega]; exact q1.1) (by rw [show (((a5 + 1).toNat : Nat) : Int) + 1 = a5 + 2 by omega]; exact q1.2)
    have sz : 0 ≤ a4 ∧ a4 < 111152 := by have y1 := (FUL_sz (FUL_lt hf (show (a5 + 1).toNat ≤ L by omega))).1; rw [show (((a5 + 1).toNat : Nat) : Int) = a5 + 1 by omega] at y1; have y2 := (FUL_sz (FUL_lt hf (show (a5 + 2).toNat ≤ L by omega))).2; rw [show (((a5 + 2).toNat : Nat) : Int) = a5 + 2 by omega] at y2; have y3 := szB_m (n := (a5 + 2).toNat) (by omega); omega
    refine OK_if (fun c1 => ?_) (fun c1 => ?_)
    · skip
      try simp (disch := omega) only [jst_eq, jst_ne, jst_ni, jI_i, jcmp_lt, jcmp_gt, w32_id, jcpy_out, Sum.elim_inl, Sum.elim_inr, jt2, jt3, jt4, jt5, jt6, jt7, jt8] at c1
      refine OK_ir ?_
      try dsimp only [Sum.elim_inl, Sum.elim_inr, jt2, jt3, jt4, jt5, jt6, jt7, jt8]
      refine ⟨?_, ?_⟩
      · exact fun j l => q3 j (by omega) l -- o1 e1.1
      · (first | assumption | omega | ((try dsimp only [jt2, jt3, jt4]); first | omega | (simp (disch := omega) only [jst_eq, jst_ne, jst_ni, jst_o, jI_i, jcpy_out, w32_id, jdiv_nn, jshr_k, jand_255] <;> first | done | omega | assumption)) | (intros; simp (disch := omega) only [jst_eq, jst_ne, jst_ni, jst_o, jI_i, jcpy_out, w32_id, jdiv_nn, *] <;> first | done | omega) | (intros; simp (disch := omega) only [jst_eq, jst_ne, jst_ni, jst_o, jI_i, jcpy_out, w32_id, jdiv_nn] at * <;> first | done | omega | assumption) | (intros; first | rfl | (exfalso; omega) | ((repeat' apply And.intro) <;> first | assumption | rfl | omega | trivial))) -- o2 e1.2
    · skip
      try simp (disch := omega) only [jst_eq, jst_ne, jst_ni, jI_i, jcmp_lt, jcmp_gt, w32_id, jcpy_out, Sum.elim_inl, Sum.elim_inr, jt2, jt3, jt4, jt5, jt6, jt7, jt8] at c1
      refine OK_jg (by (first | assumption | omega | ((try dsimp only [jt2, jt3, jt4]); first | omega | (simp (disch := omega) only [jst_eq, jst_ne, jst_ni, jst_o, jI_i, jcpy_out, w32_id, jdiv_nn, jshr_k, jand_255] <;> first | done | omega | assumption)) | (intros; simp (disch := omega) only [jst_eq, jst_ne, jst_ni, jst_o, jI_i, jcpy_out, w32_id, jdiv_nn, *] <;> first | done | omega) | (intros; simp (disch := omega) only [jst_eq, jst_ne, jst_ni, jst_o, jI_i, jcpy_out, w32_id, jdiv_nn] at * <;> first | done | omega | assumption) | (intros; first | rfl | (exfalso; omega) | ((repeat' apply And.intro) <;> first | assumption | rfl | omega | trivial)))) ?_ -- o3
      refine OK_jg (by (first | assumption | omega | ((try dsimp only [jt2, jt3, jt4]); first | omega | (simp (disch := omega) only [jst_eq, jst_ne, jst_ni, jst_o, jI_i, jcpy_out, w32_id, jdiv_nn, jshr_k, jand_255] <;> first | done | omega | assumption)) | (intros; simp (disch := omega) only [jst_eq, jst_ne, jst_ni, jst_o, jI_i, jcpy_out, w32_id, jdiv_nn, *] <;> first | done | omega) | (intros; simp (disch := omega) only [jst_eq, jst_ne, jst_ni, jst_o, jI_i, jcpy_out, w32_id, jdiv_nn] at * <;> first | done | omega | assumption) | (intros; first | rfl | (exfalso; omega) | ((repeat' apply And.intro) <;> first | assumption | rfl | omega | trivial)))) ?_ -- o4
      refine OK_jl ?_
      try simp (disch := omega) only [jst_ne, r3]
      refine OK_jg (by (first | assumption | omega | ((try dsimp only [jt2, jt3, jt4]); first | omega | (simp (disch := omega) only [jst_eq, jst_ne, jst_ni, jst_o, jI_i, jcpy_out, w32_id, jdiv_nn, jshr_k, jand_255] <;> first | done | omega | assumption)) | (intros; simp (disch := omega) only [jst_eq, jst_ne, jst_ni, jst_o, jI_i, jcpy_out, w32_id, jdiv_nn, *] <;> first | done | omega) | (intros; simp (disch := omega) only [jst_eq, jst_ne, jst_ni, jst_o, jI_i, jcpy_out, w32_id, jdiv_nn] at * <;> first | done | omega | assumption) | (intros; first | rfl | (exfalso; omega) | ((repeat' apply And.intro) <;> first | assumption | rfl | omega | trivial)))) ?_ -- o5
      refine OK_jlx (fun x9 ex9 => ?_)
      try simp (disch := omega) only [jst_eq, jst_ne, jst_ni, jI_i, jcmp_lt, jcmp_gt, w32_id, jcpy_out, Sum.elim_inl, Sum.elim_inr, jt2, jt3, jt4, jt5, jt6, jt7, jt8] at ex9
      have e9 : x9 = h0 p3 a4 := by { rw [ex9, q4 _ _ (by omega)] }
      refine OK_jlx (fun x10 ex10 => ?_)
      try simp (disch := omega) only [jst_eq, jst_ne, jst_ni, jI_i, jcmp_lt, jcmp_gt, w32_id, jcpy_out, Sum.elim_inl, Sum.elim_inr, jt2, jt3, jt4, jt5, jt6, jt7, jt8] at ex10
      refine OK_il ?_ ?_
      · try dsimp only [Sum.elim_inl, Sum.elim_inr, jt2, jt3, jt4, jt5, jt6, jt7, jt8]
        refine ⟨?_, ?_, ?_, ?_, ?_⟩
        · (first | assumption | omega | ((try dsimp only [jt2, jt3, jt4]); first | omega | (simp (disch := omega) only [jst_eq, jst_ne, jst_ni, jst_o, jI_i, jcpy_out, w32_id, jdiv_nn, jshr_k, jand_255] <;> first | done | omega | assumption)) | (intros; simp (disch := omega) only [jst_eq, jst_ne, jst_ni, jst_o, jI_i, jcpy_out, w32_id, jdiv_nn, *] <;> first | done | omega) | (intros; simp (disch := omega) only [jst_eq, jst_ne, jst_ni, jst_o, jI_i, jcpy_out, w32_id, jdiv_nn] at * <;> first | done | omega | assumption) | (intros; first | rfl | (exfalso; omega) | ((repeat' apply And.intro) <;> first | assumption | rfl | omega | trivial))) -- o6 e2i.1
        · (obtain ⟨b1, b2, b3⟩ := (sn (by omega)).2.2 (by omega); rw [show (((a5 + 1).toNat : Nat) : Int) - 1 = a5 by omega, show (((a5 + 1).toNat : Nat) : Int) = a5 + 1 by omega] at b1; rw [e9, show x10 + 1 = a5 by omega, show x10 + 2 = a5 + 1 by omega]; exact b1) -- o7 e2i.2
        · (obtain ⟨b1, b2, b3⟩ := (sn (by omega)).2.2 (by omega); rw [e9, show (a50 - x10).toNat = (a50 - a5).toNat + 1 by omega, p18, Nat.mul_comm 18, ← Nat.div_div_eq_div_mul, ← q2, b3]; omega) -- o8 e2i.3
        · (intro j j0 j1; by_cases y : (j : Int) = a5; { obtain ⟨b1, b2, b3⟩ := (sn (by omega)).2.2 (by omega); rw [y, jst_eq, ← q2, b3, q4 _ _ (by omega)]; omega }; { rw [jst_ni (by omega)]; exact q3 j (by omega) j1 }) -- o9 e2i.4
        · (intro a s y; rw [jst_o (by omega)]; exact q4 a s y) -- o10 e2i.5
      · (first | assumption | omega | ((try dsimp only [jt2, jt3, jt4]); first | omega | (simp (disch := omega) only [jst_eq, jst_ne, jst_ni, jst_o, jI_i, jcpy_out, w32_id, jdiv_nn, jshr_k, jand_255] <;> first | done | omega | assumption)) | (intros; simp (disch := omega) only [jst_eq, jst_ne, jst_ni, jst_o, jI_i, jcpy_out, w32_id, jdiv_nn, *] <;> first | done | omega) | (intros; simp (disch := omega) only [jst_eq, jst_ne, jst_ni, jst_o, jI_i, jcpy_out, w32_id, jdiv_nn] at * <;> first | done | omega | assumption) | (intros; first | rfl | (exfalso; omega) | ((repeat' apply And.intro) <;> first | assumption | rfl | omega | trivial))) -- o11 e2m
  · try dsimp only [Sum.elim_inl, Sum.elim_inr, jt2, jt3, jt4, jt5, jt6, jt7, jt8]
    refine ⟨?_, ?_, ?_, ?_, ?_⟩
    · (first | assumption | omega | ((try dsimp only [jt2, jt3, jt4]); first | omega | (simp (disch := omega) only [jst_eq, jst_ne, jst_ni, jst_o, jI_i, jcpy_out, w32_id, jdiv_nn, jshr_k, jand_255] <;> first | done | omega | assumption)) | (intros; simp (disch := omega) only [jst_eq, jst_ne, jst_ni, jst_o, jI_i, jcpy_out, w32_id, jdiv_nn, *] <;> first | done | omega) | (intros; simp (disch := omega) only [jst_eq, jst_ne, jst_ni, jst_o, jI_i, jcpy_out, w32_id, jdiv_nn] at * <;> first | done | omega | assumption) | (intros; first | rfl | (exfalso; omega) | ((repeat' apply And.intro) <;> first | assumption | rfl | omega | trivial))) -- o12 init.1
    · (rw [h5.2.2.2.1]; exact h5.2.2.2.2) -- o13 init.2
    · (rw [h5.2.2.2.1, Int.sub_self]; exact (Nat.div_one _).symm) -- o14 init.3
    · (intro j j0 j1; omega) -- o15 init.4
    · exact fun _ _ _ => rfl -- o16 init.5
def lvN (h : AH) (n : Nat) (k : Int) : Prop := h 871 n ≤ k ∧ k < h 871 ((n : Int) + 1)
theorem jst_f {h : AH} {a i v b : Int} (n : b ≠ a) : jst h a i v b = h b := funext fun _ => jst_ne n
theorem TK_h {h h' : AH} {p1 p2 p3 p4 p8 : Int} (t : TK h p1 p2 p3 p4 p8) (f : ∀ a s, ((1078 ≤ a ∧ s < 0) ∨ (a = 454 ∧ ((141 ≤ s ∧ s ≤ 144) ∨ s = 148))) → h' a s = h a s) : TK h' p1 p2 p3 p4 p8 := by
  obtain ⟨⟨k1, k2, k3, k4, k8⟩, ⟨s1, s2, s3, s4, s8⟩, z1, z2, z3, z4, z8⟩ := t
  unfold TK
  rw [f 454 141 (by omega), f 454 142 (by omega), f 454 143 (by omega), f 454 144 (by omega), f 454 148 (by omega), f p1 (-2) (by omega), f p1 (-1) (by omega), f p2 (-2) (by omega), f p2 (-1) (by omega), f p3 (-2) (by omega), f p3 (-1) (by omega), f p4 (-2) (by omega), f p4 (-1) (by omega), f p8 (-2) (by omega), f p8 (-1) (by omega)]
  exact ⟨⟨k1, k2, k3, k4, k8⟩, ⟨s1, s2, s3, s4, s8⟩, z1, z2, z3, z4, z8⟩
theorem dgL_5 {c a j : Nat} (ha : a < 18) (hj : j ≤ 3) : dgL 5 (18 * c + a) j = c / 18 ^ (3 - j) % 18 := by
  unfold dgL
  rw [show 5 - 1 - j = 3 - j + 1 by omega, p18, ← Nat.div_div_eq_div_mul, show (18 * c + a) / 18 = c by omega]
theorem dgL_54 {c a : Nat} (ha : a < 18) : dgL 5 (18 * c + a) 4 = a := by
  unfold dgL
  rw [show 5 - 1 - 4 = 0 by omega, Nat.pow_zero, Nat.div_one]
  omega
theorem vX14_tellRow (a1 : Int) (a2 : Int) (a3 : Int) {h : AH} {p1 p2 p3 p4 p8 : Int} {cd : Int → Nat} {L n C : Nat} (hk : TK h p1 p2 p3 p4 p8) (hf : FUL (h p1) (h p2) (h p3) (h p4) cd (h 871) L) (hL : L ≤ 5) (hn : a1 = n ∧ ((n ≤ 4 ∧ n < L ∧ lvN h n a2 ∧ C = cd a2) ∨ (n = 5 ∧ L = 5 ∧ lvN h 4 a2 ∧ (0 ≤ a3 ∧ a3 < 18) ∧ C = 18 * cd a2 + a3.toNat))) : OK (gX14_tellRow a1 a2 a3 h) (fun r => jt2 r fun v h' => (v = n ∧ h' 454 137 = n ∧ ∀ j : Nat, j < n → h' 850 j = dgL n C j) ∧ (∀ a s, ¬ (a = 454 ∧ s = 137) → ¬ (a = 850 ∧ 0 ≤ s ∧ s < 5) → h' a s = h a s)) := by
  have tz := hk.2.2
  unfold gX14_tellRow
  refine OK_jl ?_
  refine OK_if (fun c1 => ?_) (fun c1 => ?_)
  · skip
    try simp (disch := omega) only [jst_eq, jst_ne, jst_ni, jI_i, jcmp_lt, jcmp_gt, w32_id, jcpy_out, Sum.elim_inl, Sum.elim_inr, jt2, jt3, jt4, jt5, jt6, jt7, jt8] at c1
    obtain ⟨n5, L5, ⟨v1, v2⟩, av, Ce⟩ := hn.2.resolve_left (fun z => by omega)
    have v2' : a2 < h 871 5 := v2
    have v1' : h 871 4 ≤ a2 := v1
    refine OK_jl ?_
    unfold gX14_tellRow_j20
    refine OK_jlx (fun x4 ex4 => ?_)
    try simp (disch := omega) only [jst_eq, jst_ne, jst_ni, jI_i, jcmp_lt, jcmp_gt, w32_id, jcpy_out, Sum.elim_inl, Sum.elim_inr, jt2, jt3, jt4, jt5, jt6, jt7, jt8] at ex4
    have e4 : x4 = min a1 4 - 1 := by { omega }
    refine OK_jb (vX14_tellRow_l29 (p1 := p1) (p2 := p2) (p3 := p3) (p4 := p4) (p8 := p8) (k := a2) (cd := cd) (L := L) _ _ _ (by exact TK_h hk (fun a s y => by rw [jst_o (by omega), jst_o (by omega)])) (by (simp (disch := omega) only [jst_f]; exact hf)) (by exact hL) (by (simp (disch := omega) only [jst_f]; rw [show x4 + 1 = 4 by omega, show x4 + 2 = 5 by omega]; exact ⟨by omega, by omega, by omega, by trivial, v1', v2'⟩))) (fun o5 r1 => ?_)
    try dsimp only [Sum.elim_inl, Sum.elim_inr, jt2, jt3, jt4, jt5, jt6, jt7, jt8] at r1
    obtain ⟨v1, fr1⟩ := r1
    try simp (disch := omega) only [jst_eq, jst_ne, jst_ni, jI_i, jcmp_lt, jcmp_gt, w32_id, jcpy_out, Sum.elim_inl, Sum.elim_inr, jt2, jt3, jt4, jt5, jt6, jt7, jt8] at v1
    try simp (disch := omega) only [jst_eq, jst_ne, jst_ni, jI_i, jcmp_lt, jcmp_gt, w32_id, jcpy_out, Sum.elim_inl, Sum.elim_inr, jt2, jt3, jt4, jt5, jt6, jt7, jt8] at fr1
    refine OK_some ?_
    try dsimp only [Sum.elim_inl, Sum.elim_inr, jt2, jt3, jt4, jt5, jt6, jt7, jt8]
    try dsimp only [Sum.elim_inl, Sum.elim_inr, jt2, jt3, jt4, jt5, jt6, jt7, jt8]
    refine ⟨?_, ?_⟩
    · (refine ⟨hn.1, by rw [fr1 _ _ (by omega), jst_ne (by decide), jst_eq]; exact hn.1, fun j jn => ?_⟩; subst n5; subst Ce; by_cases y : j = 4; { subst y; rw [fr1 _ _ (by omega)]; show jst _ 850 4 a3 850 4 = _; rw [jst_eq, dgL_54 (by omega)]; omega }; { rw [v1 j (by omega), dgL_5 (by omega) (by omega), show (x4 - (j : Int)).toNat = 3 - j by omega] }) -- o5 e1.1
    · (intro a s y1 y2; rw [fr1 a s (by omega), jst_o (by omega), jst_o (by omega)]) -- o6 e1.2
  · skip
    try simp (disch := omega) only [jst_eq, jst_ne, jst_ni, jI_i, jcmp_lt, jcmp_gt, w32_id, jcpy_out, Sum.elim_inl, Sum.elim_inr, jt2, jt3, jt4, jt5, jt6, jt7, jt8] at c1
    obtain ⟨n4, nL, ⟨v1, v2⟩, Ce⟩ := hn.2.resolve_right (fun z => by omega)
    unfold gX14_tellRow_j20
    refine OK_jlx (fun x4 ex4 => ?_)
    try simp (disch := omega) only [jst_eq, jst_ne, jst_ni, jI_i, jcmp_lt, jcmp_gt, w32_id, jcpy_out, Sum.elim_inl, Sum.elim_inr, jt2, jt3, jt4, jt5, jt6, jt7, jt8] at ex4
    have e4 : x4 = min a1 4 - 1 := by { omega }
    refine OK_jb (vX14_tellRow_l29 (p1 := p1) (p2 := p2) (p3 := p3) (p4 := p4) (p8 := p8) (k := a2) (cd := cd) (L := L) _ _ _ (by exact TK_h hk (fun a s y => by rw [jst_o (by omega)])) (by (simp (disch := omega) only [jst_f]; exact hf)) (by exact hL) (by (simp (disch := omega) only [jst_f]; rw [show x4 + 1 = (n : Int) by omega, show x4 + 2 = (n : Int) + 1 by omega]; exact ⟨by omega, by omega, by omega, by trivial, v1, v2⟩))) (fun o5 r2 => ?_)
    try dsimp only [Sum.elim_inl, Sum.elim_inr, jt2, jt3, jt4, jt5, jt6, jt7, jt8] at r2
    obtain ⟨v2, fr2⟩ := r2
    try simp (disch := omega) only [jst_eq, jst_ne, jst_ni, jI_i, jcmp_lt, jcmp_gt, w32_id, jcpy_out, Sum.elim_inl, Sum.elim_inr, jt2, jt3, jt4, jt5, jt6, jt7, jt8] at v2
    try simp (disch := omega) only [jst_eq, jst_ne, jst_ni, jI_i, jcmp_lt, jcmp_gt, w32_id, jcpy_out, Sum.elim_inl, Sum.elim_inr, jt2, jt3, jt4, jt5, jt6, jt7, jt8] at fr2
    refine OK_some ?_
    try dsimp only [Sum.elim_inl, Sum.elim_inr, jt2, jt3, jt4, jt5, jt6, jt7, jt8]
    try dsimp only [Sum.elim_inl, Sum.elim_inr, jt2, jt3, jt4, jt5, jt6, jt7, jt8]
    refine ⟨?_, ?_⟩
    · (refine ⟨hn.1, by rw [fr2 _ _ (by omega), jst_eq]; exact hn.1, fun j jn => ?_⟩; rw [v2 j (by omega), Ce]; unfold dgL; rw [show (x4 - (j : Int)).toNat = n - 1 - j by omega]) -- o11 e2.1
    · (intro a s y1 y2; rw [fr2 a s (by omega), jst_o (by omega)]) -- o12 e2.2
/-! the fifth act: what it comes to, in a table, as far as there is room -/
def TL (h : AH) (r1 r2 r3 : Int) : Prop := (h 454 149 = r1 ∧ h 454 150 = r2 ∧ h 454 151 = r3) ∧ ((h r1 (-2) = 102 ∧ h r1 (-1) = 262144) ∧ (h r2 (-2) = 101 ∧ h r2 (-1) = 262144) ∧ (h r3 (-2) = 101 ∧ h r3 (-1) = 524288)) ∧ 1078 ≤ r1 ∧ r1 < r2 ∧ r2 < r3
def PL (h : AH) (r1 r3 M : Int) : Prop := prT 524288 M (h r3) (fun m => sumH (h r1 m) 0 19)
theorem vX14_addLast_l9 (i1 : Int) (i3 : Int) (i4 : Int) (a50 : Int) {h : AH} {r1 r2 r3 M D : Int} (hk : TL h r1 r2 r3) (hp : PL h r1 r3 M) (hM : M ≤ 262144) (h7 : a50 = sumH i1 0 19) (hD : 0 ≤ D ∧ D < 524288 ∧ h r3 (slP 524288 (sumH i1 0 19) D) = 0) : OK (gX14_addLast_l9 i1 i3 i4 a50 h) (Sum.elim (fun _ => ∃ k, 0 ≤ k ∧ k < M ∧ h r1 k = i1) (fun o => (∃ d, 0 ≤ d ∧ d < 524288 ∧ o = slP 524288 (sumH i1 0 19) d ∧ h r3 o = 0 ∧ ∀ e, 0 ≤ e → e < d → h r3 (slP 524288 (sumH i1 0 19) e) ≠ 0) ∧ (∀ k, 0 ≤ k → k < M → ¬ (h r1 k = i1)))) := by
  have hb := sumH19 i1 0
  obtain ⟨⟨k1, k2, k3⟩, ⟨s1, s2, s3⟩, z1, z2, z3⟩ := hk
  unfold gX14_addLast_l9
  refine OK_jit (I := (fun (a5 : Int) => (0 ≤ a5 ∧ a5 < 524288 ∧ (a5 - sumH i1 0 19) % 524288 ≤ D) ∧ (∀ e, 0 ≤ e → e < (a5 - sumH i1 0 19) % 524288 → h r3 (slP 524288 (sumH i1 0 19) e) ≠ 0 ∧ ¬ (h r1 (h r3 (slP 524288 (sumH i1 0 19) e) - 1) = i1)))) (m := (fun (a5 : Int) => (D - (a5 - sumH i1 0 19) % 524288).toNat)) ?_ ?_
  · intro a5 hs
    try dsimp only at hs
    obtain ⟨q0, q1⟩ := hs
    unfold gX14_addLast_b9
    rw [k1, k3]
    have tb := hp.2.2.1 a5 q0.1 q0.2.1
    have sl : slP 524288 (sumH i1 0 19) ((a5 - sumH i1 0 19) % 524288) = a5 := slP_i (by omega) q0.1 q0.2.1
    have nx : jand (a5 + 1) 524287 = (a5 + 1) % 524288 := by rw [jand_524287]
    have nD : h r3 a5 ≠ 0 → (a5 - sumH i1 0 19) % 524288 ≠ D := fun z w => by rw [w] at sl; rw [sl] at hD; exact z hD.2.2
    have w14 : w32 (h r3 a5 - 1) = h r3 a5 - 1 := w32_id (by omega) (by omega)
    have st : h r3 a5 ≠ 0 → ¬ (h r1 (h r3 a5 - 1) = i1) → ∀ e, 0 ≤ e → e < (jand (a5 + 1) 524287 - sumH i1 0 19) % 524288 → h r3 (slP 524288 (sumH i1 0 19) e) ≠ 0 ∧ ¬ (h r1 (h r3 (slP 524288 (sumH i1 0 19) e) - 1) = i1) := fun y1 y2 e e0 e1 => by have := nD y1; rw [nx] at e1; by_cases w : e = (a5 - sumH i1 0 19) % 524288; { rw [w, sl]; exact ⟨y1, y2⟩ }; { exact q1 e e0 (by omega) }
    rw [w14]
    refine OK_jg (by (first | assumption | omega | ((try dsimp only [jt2, jt3, jt4]); first | omega | (simp (disch := omega) only [jst_eq, jst_ne, jst_ni, jst_o, jI_i, jcpy_out, w32_id, jdiv_nn, jshr_k, jand_255] <;> first | done | omega | assumption)) | (intros; simp (disch := omega) only [jst_eq, jst_ne, jst_ni, jst_o, jI_i, jcpy_out, w32_id, jdiv_nn, *] <;> first | done | omega) | (intros; simp (disch := omega) only [jst_eq, jst_ne, jst_ni, jst_o, jI_i, jcpy_out, w32_id, jdiv_nn] at * <;> first | done | omega | assumption) | (intros; first | rfl | (exfalso; omega) | ((repeat' apply And.intro) <;> first | assumption | rfl | omega | trivial)))) ?_ -- o1
    refine OK_if (fun c1 => ?_) (fun c1 => ?_)
    · skip
      try simp (disch := omega) only [jst_eq, jst_ne, jst_ni, jI_i, jcmp_lt, jcmp_gt, w32_id, jcpy_out, Sum.elim_inl, Sum.elim_inr, jt2, jt3, jt4, jt5, jt6, jt7, jt8] at c1
      refine OK_ir ?_
      try dsimp only [Sum.elim_inl, Sum.elim_inr, jt2, jt3, jt4, jt5, jt6, jt7, jt8]
      refine ⟨?_, ?_⟩
      · exact ⟨(a5 - sumH i1 0 19) % 524288, by omega, by omega, sl.symm, by omega, fun e e0 e1 => (q1 e e0 e1).1⟩ -- o2 e1.1
      · (rintro k k0 k1 w1; obtain ⟨e, e0, e1, e2⟩ := prT_m hp (x := sumH i1 0 19) (D := (a5 - sumH i1 0 19) % 524288) (by omega) (by rw [sl]; omega) k0 k1 (by show sumH (h r1 k) 0 19 = _; rw [w1]); refine (q1 e e0 e1).2 ?_; rw [e2, show k + 1 - 1 = k by omega]; exact w1) -- o3 e1.2
    · skip
      try simp (disch := omega) only [jst_eq, jst_ne, jst_ni, jI_i, jcmp_lt, jcmp_gt, w32_id, jcpy_out, Sum.elim_inl, Sum.elim_inr, jt2, jt3, jt4, jt5, jt6, jt7, jt8] at c1
      refine OK_jg (by (first | assumption | omega | ((try dsimp only [jt2, jt3, jt4]); first | omega | (simp (disch := omega) only [jst_eq, jst_ne, jst_ni, jst_o, jI_i, jcpy_out, w32_id, jdiv_nn, jshr_k, jand_255] <;> first | done | omega | assumption)) | (intros; simp (disch := omega) only [jst_eq, jst_ne, jst_ni, jst_o, jI_i, jcpy_out, w32_id, jdiv_nn, *] <;> first | done | omega) | (intros; simp (disch := omega) only [jst_eq, jst_ne, jst_ni, jst_o, jI_i, jcpy_out, w32_id, jdiv_nn] at * <;> first | done | omega | assumption) | (intros; first | rfl | (exfalso; omega) | ((repeat' apply And.intro) <;> first | assumption | rfl | omega | trivial)))) ?_ -- o4
      refine OK_if (fun c2 => ?_) (fun c2 => ?_)
      · skip
        try simp (disch := omega) only [jst_eq, jst_ne, jst_ni, jI_i, jcmp_lt, jcmp_gt, w32_id, jcpy_out, Sum.elim_inl, Sum.elim_inr, jt2, jt3, jt4, jt5, jt6, jt7, jt8] at c2
        refine OK_ir ?_
        exact ⟨h r3 a5 - 1, by omega, by omega, jcmp_eq.mp c2⟩ -- o5 e2
      · skip
        try simp (disch := omega) only [jst_eq, jst_ne, jst_ni, jI_i, jcmp_lt, jcmp_gt, w32_id, jcpy_out, Sum.elim_inl, Sum.elim_inr, jt2, jt3, jt4, jt5, jt6, jt7, jt8] at c2
        refine OK_jlx (fun x15 ex15 => ?_)
        try simp (disch := omega) only [jst_eq, jst_ne, jst_ni, jI_i, jcmp_lt, jcmp_gt, w32_id, jcpy_out, Sum.elim_inl, Sum.elim_inr, jt2, jt3, jt4, jt5, jt6, jt7, jt8] at ex15
        refine OK_il ?_ ?_
        · try dsimp only [Sum.elim_inl, Sum.elim_inr, jt2, jt3, jt4, jt5, jt6, jt7, jt8]
          refine ⟨?_, ?_⟩
          · (have := nD (by omega); rw [ex15, nx]; omega) -- o6 e3i.1
          · (rw [ex15]; exact st (by omega) (fun w => c2 (jcmp_eq.mpr w))) -- o7 e3i.2
        · (have := nD (by omega); rw [ex15, nx]; omega) -- o8 e3m
  · try dsimp only [Sum.elim_inl, Sum.elim_inr, jt2, jt3, jt4, jt5, jt6, jt7, jt8]
    refine ⟨?_, ?_⟩
    · (rw [h7]; omega) -- o9 init.1
    · (rw [h7]; intro e e0 e1; omega) -- o10 init.2
/-- the table: what was gone through, 18 times the place and the act -/
def LTI (h : AH) (p1 p2 r1 r2 r3 lo K : Int) : Prop := TL h r1 r2 r3 ∧ PL h r1 r3 (h 454 152) ∧ (0 ≤ h 454 152 ∧ h 454 152 ≤ 262144) ∧ (∀ m, 0 ≤ m → m < h 454 152 → ∃ (k : Int) (x : Nat), (lo ≤ k ∧ x < 18 ∧ 18 * k + x < K) ∧ h r2 m = 32 * k + x ∧ h r1 m = AL x (h p1 k) (h p2 k) ∧ ∀ (k' : Int) (x' : Nat), lo ≤ k' → x' < 18 → 18 * k' + x' < 18 * k + x → AL x' (h p1 k') (h p2 k') ≠ h r1 m) ∧ (h 454 153 = 1 → ∀ (k : Int) (x : Nat), lo ≤ k → x < 18 → 18 * k + x < K → ∃ m, 0 ≤ m ∧ m < h 454 152 ∧ h r1 m = AL x (h p1 k) (h p2 k)) ∧ (h 454 153 = 1 ∨ (h 454 153 = 0 ∧ h 454 152 = 262144))
def frL (r1 r2 r3 : Int) (h h' : AH) : Prop := ∀ a s, ¬ ((a = r1 ∨ a = r2 ∨ a = r3) ∧ 0 ≤ s) → ¬ (a = 454 ∧ (s = 152 ∨ s = 153)) → h' a s = h a s
def lsS (h h' : AH) (r1 r2 r3 M a w : Int) : Prop := (h' r1 M = a ∧ h' r2 M = w ∧ h' 454 152 = M + 1 ∧ h' 454 153 = h 454 153) ∧ PL h' r1 r3 (M + 1) ∧ ∀ a s, ¬ ((a = r1 ∨ a = r2) ∧ s = M) → ¬ (a = 454 ∧ s = 152) → ¬ (a = r3 ∧ 0 ≤ s) → h' a s = h a s
theorem lsS_mk {h : AH} {r1 r2 r3 M a w o d : Int} (z : 1078 ≤ r1 ∧ r1 < r2 ∧ r2 < r3) (hp : PL h r1 r3 M) (d0 : 0 ≤ d) (d1 : d < 524288) (eo : o = slP 524288 (sumH a 0 19) d) (zo : h r3 o = 0) (ne : ∀ e, 0 ≤ e → e < d → h r3 (slP 524288 (sumH a 0 19) e) ≠ 0) : lsS h (jst (jst (jst (jst h r1 M a) r2 M w) 454 152 (M + 1)) r3 o (M + 1)) r1 r2 r3 M a w := by
  have hb := sumH19 a 0
  have ob : 0 ≤ o := by rw [eo]; exact (slP_b (by omega)).1
  refine ⟨⟨?_, ?_, ?_, ?_⟩, ?_, fun a' s y1 y2 y3 => ?_⟩
  · rw [jst_ne (by omega), jst_ne (by omega), jst_ne (by omega), jst_eq]
  · rw [jst_ne (by omega), jst_ne (by omega), jst_eq]
  · rw [jst_ne (by omega), jst_eq]
  · rw [jst_ne (by omega), jst_ni (by omega), jst_ne (by omega), jst_ne (by omega)]
  · have g := prT_n hp (x := sumH a 0 19) (D := d) hb.1 hb.2 d0 d1 (by rw [← eo]; exact zo) ne
    rw [← eo] at g
    refine prT_c g (fun p p0 p1 => ?_) (fun k k0 k1 => ?_)
    · by_cases w : p = o
      · rw [w, jst_eq, up1_e]
      · rw [jst_ni w, jst_ne (by omega), jst_ne (by omega), jst_ne (by omega), up1_o w]
    · show sumH (jst (jst (jst (jst h r1 M a) r2 M _) 454 152 (M + 1)) r3 o (M + 1) r1 k) 0 19 = _
      rw [jst_ne (by omega), jst_ne (by omega), jst_ne (by omega)]
      by_cases w : k = M
      · rw [w, jst_eq, up1_e]
      · rw [jst_ni w, up1_o w]
  · rw [jst_o (by omega), jst_o (by omega), jst_o (by omega), jst_o (by omega)]
def lsC (h h' : AH) (r1 r2 r3 M a w : Int) : Prop := (h' = h ∧ ∃ m, 0 ≤ m ∧ m < M ∧ h r1 m = a) ∨ (M = 262144 ∧ h' = jst h 454 153 0) ∨ (M < 262144 ∧ (∀ m, 0 ≤ m → m < M → h r1 m ≠ a) ∧ lsS h h' r1 r2 r3 M a w)
theorem vX14_addLast (a1 : Int) (a3 : Int) (a4 : Int) {h : AH} {r1 r2 r3 : Int} (hk : TL h r1 r2 r3) (hp : PL h r1 r3 (h 454 152)) (hM : 0 ≤ h 454 152 ∧ h 454 152 ≤ 262144) (ha : (0 ≤ a3 ∧ a3 < 111152) ∧ 0 ≤ a4 ∧ a4 < 18) : OK (gX14_addLast a1 a3 a4 h) (fun h' => lsC h h' r1 r2 r3 (h 454 152) a1 (32 * a3 + a4)) := by
  have hk' := hk
  obtain ⟨⟨k1, k2, k3⟩, ⟨s1, s2, s3⟩, z1, z2, z3⟩ := hk
  obtain ⟨D, hD⟩ := prT_e hp (by omega) (sumH a1 0 19)
  have hb := sumH19 a1 0
  unfold gX14_addLast
  refine OK_jb (vX14_sumOf _ _ _) (fun v2 r1 => ?_)
  try dsimp only [Sum.elim_inl, Sum.elim_inr, jt2, jt3, jt4, jt5, jt6, jt7, jt8] at r1
  have v1 := r1
  clear r1
  try simp (disch := omega) only [jst_eq, jst_ne, jst_ni, jI_i, jcmp_lt, jcmp_gt, w32_id, jcpy_out, Sum.elim_inl, Sum.elim_inr, jt2, jt3, jt4, jt5, jt6, jt7, jt8] at v1
  refine OK_jb (vX14_addLast_l9 (r1 := r1) (r2 := r2) (r3 := r3) (M := h 454 152) (D := D) _ _ _ _ (by (first | assumption | omega | ((try dsimp only [jt2, jt3, jt4]); first | omega | (simp (disch := omega) only [jst_eq, jst_ne, jst_ni, jst_o, jI_i, jcpy_out, w32_id, jdiv_nn, jshr_k, jand_255] <;> first | done | omega | assumption)) | (intros; simp (disch := omega) only [jst_eq, jst_ne, jst_ni, jst_o, jI_i, jcpy_out, w32_id, jdiv_nn, *] <;> first | done | omega) | (intros; simp (disch := omega) only [jst_eq, jst_ne, jst_ni, jst_o, jI_i, jcpy_out, w32_id, jdiv_nn] at * <;> first | done | omega | assumption) | (intros; first | rfl | (exfalso; omega) | ((repeat' apply And.intro) <;> first | assumption | rfl | omega | trivial)))) (by (first | assumption | omega | ((try dsimp only [jt2, jt3, jt4]); first | omega | (simp (disch := omega) only [jst_eq, jst_ne, jst_ni, jst_o, jI_i, jcpy_out, w32_id, jdiv_nn, jshr_k, jand_255] <;> first | done | omega | assumption)) | (intros; simp (disch := omega) only [jst_eq, jst_ne, jst_ni, jst_o, jI_i, jcpy_out, w32_id, jdiv_nn, *] <;> first | done | omega) | (intros; simp (disch := omega) only [jst_eq, jst_ne, jst_ni, jst_o, jI_i, jcpy_out, w32_id, jdiv_nn] at * <;> first | done | omega | assumption) | (intros; first | rfl | (exfalso; omega) | ((repeat' apply And.intro) <;> first | assumption | rfl | omega | trivial)))) (by (first | assumption | omega | ((try dsimp only [jt2, jt3, jt4]); first | omega | (simp (disch := omega) only [jst_eq, jst_ne, jst_ni, jst_o, jI_i, jcpy_out, w32_id, jdiv_nn, jshr_k, jand_255] <;> first | done | omega | assumption)) | (intros; simp (disch := omega) only [jst_eq, jst_ne, jst_ni, jst_o, jI_i, jcpy_out, w32_id, jdiv_nn, *] <;> first | done | omega) | (intros; simp (disch := omega) only [jst_eq, jst_ne, jst_ni, jst_o, jI_i, jcpy_out, w32_id, jdiv_nn] at * <;> first | done | omega | assumption) | (intros; first | rfl | (exfalso; omega) | ((repeat' apply And.intro) <;> first | assumption | rfl | omega | trivial)))) (by (first | assumption | omega | ((try dsimp only [jt2, jt3, jt4]); first | omega | (simp (disch := omega) only [jst_eq, jst_ne, jst_ni, jst_o, jI_i, jcpy_out, w32_id, jdiv_nn, jshr_k, jand_255] <;> first | done | omega | assumption)) | (intros; simp (disch := omega) only [jst_eq, jst_ne, jst_ni, jst_o, jI_i, jcpy_out, w32_id, jdiv_nn, *] <;> first | done | omega) | (intros; simp (disch := omega) only [jst_eq, jst_ne, jst_ni, jst_o, jI_i, jcpy_out, w32_id, jdiv_nn] at * <;> first | done | omega | assumption) | (intros; first | rfl | (exfalso; omega) | ((repeat' apply And.intro) <;> first | assumption | rfl | omega | trivial)))) (by (first | assumption | omega | ((try dsimp only [jt2, jt3, jt4]); first | omega | (simp (disch := omega) only [jst_eq, jst_ne, jst_ni, jst_o, jI_i, jcpy_out, w32_id, jdiv_nn, jshr_k, jand_255] <;> first | done | omega | assumption)) | (intros; simp (disch := omega) only [jst_eq, jst_ne, jst_ni, jst_o, jI_i, jcpy_out, w32_id, jdiv_nn, *] <;> first | done | omega) | (intros; simp (disch := omega) only [jst_eq, jst_ne, jst_ni, jst_o, jI_i, jcpy_out, w32_id, jdiv_nn] at * <;> first | done | omega | assumption) | (intros; first | rfl | (exfalso; omega) | ((repeat' apply And.intro) <;> first | assumption | rfl | omega | trivial))))) (fun o3 r2 => ?_)
  rcases o3 with o5 | o6
  · skip
    have r3 := r2; clear r2
    dsimp only [Sum.elim_inl, Sum.elim_inr] at r3
    try dsimp only [Sum.elim_inl, Sum.elim_inr, jt2, jt3, jt4, jt5, jt6, jt7, jt8] at r3
    have ye2 := r3
    clear r3
    try simp (disch := omega) only [jst_eq, jst_ne, jst_ni, jI_i, jcmp_lt, jcmp_gt, w32_id, jcpy_out, Sum.elim_inl, Sum.elim_inr, jt2, jt3, jt4, jt5, jt6, jt7, jt8] at ye2
    refine OK_jml ?_
    refine OK_some ?_
    try dsimp only [Sum.elim_inl, Sum.elim_inr, jt2, jt3, jt4, jt5, jt6, jt7, jt8]
    exact Or.inl ⟨rfl, ye2⟩ -- o6 e1
  · skip
    have r4 := r2; clear r2
    dsimp only [Sum.elim_inl, Sum.elim_inr] at r4
    try dsimp only [Sum.elim_inl, Sum.elim_inr, jt2, jt3, jt4, jt5, jt6, jt7, jt8] at r4
    obtain ⟨sl3, no3⟩ := r4
    try simp (disch := omega) only [jst_eq, jst_ne, jst_ni, jI_i, jcmp_lt, jcmp_gt, w32_id, jcpy_out, Sum.elim_inl, Sum.elim_inr, jt2, jt3, jt4, jt5, jt6, jt7, jt8] at sl3
    try simp (disch := omega) only [jst_eq, jst_ne, jst_ni, jI_i, jcmp_lt, jcmp_gt, w32_id, jcpy_out, Sum.elim_inl, Sum.elim_inr, jt2, jt3, jt4, jt5, jt6, jt7, jt8] at no3
    refine OK_jmr ?_
    obtain ⟨d, d0, d1, eo, zo, ne⟩ := sl3
    have ob := slP_b (M := 524288) (h := sumH a1 0 19) (d := d) (by omega)
    rw [← eo] at ob
    refine OK_if (fun c1 => ?_) (fun c1 => ?_)
    · skip
      try simp (disch := omega) only [jst_eq, jst_ne, jst_ni, jI_i, jcmp_lt, jcmp_gt, w32_id, jcpy_out, Sum.elim_inl, Sum.elim_inr, jt2, jt3, jt4, jt5, jt6, jt7, jt8] at c1
      refine OK_jl ?_
      refine OK_some ?_
      try dsimp only [Sum.elim_inl, Sum.elim_inr, jt2, jt3, jt4, jt5, jt6, jt7, jt8]
      exact Or.inr (Or.inl ⟨c1, rfl⟩) -- o7 e2
    · skip
      try simp (disch := omega) only [jst_eq, jst_ne, jst_ni, jI_i, jcmp_lt, jcmp_gt, w32_id, jcpy_out, Sum.elim_inl, Sum.elim_inr, jt2, jt3, jt4, jt5, jt6, jt7, jt8] at c1
      try simp (disch := omega) only [jst_ne, jst_ni, jst_eq, k1, k2, k3, w32_id]
      refine OK_jg (by (first | assumption | omega | ((try dsimp only [jt2, jt3, jt4]); first | omega | (simp (disch := omega) only [jst_eq, jst_ne, jst_ni, jst_o, jI_i, jcpy_out, w32_id, jdiv_nn, jshr_k, jand_255] <;> first | done | omega | assumption)) | (intros; simp (disch := omega) only [jst_eq, jst_ne, jst_ni, jst_o, jI_i, jcpy_out, w32_id, jdiv_nn, *] <;> first | done | omega) | (intros; simp (disch := omega) only [jst_eq, jst_ne, jst_ni, jst_o, jI_i, jcpy_out, w32_id, jdiv_nn] at * <;> first | done | omega | assumption) | (intros; first | rfl | (exfalso; omega) | ((repeat' apply And.intro) <;> first | assumption | rfl | omega | trivial)))) ?_ -- o8
      refine OK_jl ?_
      try simp (disch := omega) only [jst_ne, jst_ni, jst_eq, k1, k2, k3, w32_id]
      refine OK_jg (by (first | assumption | omega | ((try dsimp only [jt2, jt3, jt4]); first | omega | (simp (disch := omega) only [jst_eq, jst_ne, jst_ni, jst_o, jI_i, jcpy_out, w32_id, jdiv_nn, jshr_k, jand_255] <;> first | done | omega | assumption)) | (intros; simp (disch := omega) only [jst_eq, jst_ne, jst_ni, jst_o, jI_i, jcpy_out, w32_id, jdiv_nn, *] <;> first | done | omega) | (intros; simp (disch := omega) only [jst_eq, jst_ne, jst_ni, jst_o, jI_i, jcpy_out, w32_id, jdiv_nn] at * <;> first | done | omega | assumption) | (intros; first | rfl | (exfalso; omega) | ((repeat' apply And.intro) <;> first | assumption | rfl | omega | trivial)))) ?_ -- o9
      refine OK_jl ?_
      try simp (disch := omega) only [jst_ne, jst_ni, jst_eq, k1, k2, k3, w32_id]
      refine OK_jl ?_
      try simp (disch := omega) only [jst_ne, jst_ni, jst_eq, k1, k2, k3, w32_id]
      refine OK_jg (by (first | assumption | omega | ((try dsimp only [jt2, jt3, jt4]); first | omega | (simp (disch := omega) only [jst_eq, jst_ne, jst_ni, jst_o, jI_i, jcpy_out, w32_id, jdiv_nn, jshr_k, jand_255] <;> first | done | omega | assumption)) | (intros; simp (disch := omega) only [jst_eq, jst_ne, jst_ni, jst_o, jI_i, jcpy_out, w32_id, jdiv_nn, *] <;> first | done | omega) | (intros; simp (disch := omega) only [jst_eq, jst_ne, jst_ni, jst_o, jI_i, jcpy_out, w32_id, jdiv_nn] at * <;> first | done | omega | assumption) | (intros; first | rfl | (exfalso; omega) | ((repeat' apply And.intro) <;> first | assumption | rfl | omega | trivial)))) ?_ -- o10
      refine OK_jl ?_
      try simp (disch := omega) only [jst_ne, jst_ni, jst_eq, k1, k2, k3, w32_id]
      refine OK_some ?_
      try dsimp only [Sum.elim_inl, Sum.elim_inr, jt2, jt3, jt4, jt5, jt6, jt7, jt8]
      exact Or.inr (Or.inr ⟨by omega, no3, lsS_mk ⟨z1, z2, z3⟩ hp d0 d1 eo zo ne⟩) -- o11 e3

