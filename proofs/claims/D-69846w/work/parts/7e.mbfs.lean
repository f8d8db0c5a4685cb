/-! m's levels: tables that are made while running -/
def sumH (a c n : Int) : Int := w32 (jushrL (jxorL (w64 (a * (-7046029254386353131))) (w64 (w64 (c + 2135587861) * (-4417276706812531889)))) (w32 (64 - n)))
theorem sumH_b {a c : Int} {n : Nat} (n1 : 1 ≤ n) (n2 : n ≤ 30) : 0 ≤ sumH a c n ∧ sumH a c n < 2 ^ n := by
  unfold sumH
  generalize jxorL (w64 (a * (-7046029254386353131))) (w64 (w64 (c + 2135587861) * (-4417276706812531889))) = x
  have e : w32 (64 - (n : Int)) = ((64 - n : Nat) : Int) := by rw [w32_id (by omega) (by omega)]; omega
  have h1 := jushrL_u (n := 64 - n) (by omega) x
  have h2 := uL_lt x
  have h3 : uL x / 2 ^ (64 - n) < 2 ^ n := by
    refine Nat.div_lt_of_lt_mul ?_
    rw [← Nat.pow_add, show 64 - n + n = 64 by omega]
    exact h2
  have h4 := uL_m (jushrL x ((64 - n : Nat) : Int))
  have h5 := jushrL_r x ((64 - n : Nat) : Int)
  have h6 : (2 : Nat) ^ n ≤ 2 ^ 30 := Nat.pow_le_pow_right (by decide) n2
  rw [e]
  rw [h1] at h4
  unfold jr64 at h5
  have h7 : ((2 ^ n : Nat) : Int) = 2 ^ n := by rw [Int.natCast_pow]; rfl
  rw [← h7, w32_id (by omega) (by omega)]
  omega
theorem sumH18 (a c : Int) : 0 ≤ sumH a c 18 ∧ sumH a c 18 < 262144 := sumH_b (n := 18) (by omega) (by omega)
theorem sumH19 (a c : Int) : 0 ≤ sumH a c 19 ∧ sumH a c 19 < 524288 := sumH_b (n := 19) (by omega) (by omega)
theorem vX14_sumOf (a0 : Int) (a2 : Int) (a4 : Int) : OK (gX14_sumOf a0 a2 a4) (fun r => r = sumH a0 a2 a4) := by
  unfold gX14_sumOf
  refine OK_some ?_
  try dsimp only [Sum.elim_inl, Sum.elim_inr, jt2, jt3, jt4, jt5, jt6, jt7, jt8]
  rfl -- o1 e1
theorem jshr4 {x a2 : Int} (hx : jr64 x) (h0 : 0 ≤ a2) (h1 : a2 < 16) : jand (w32 (jshrL x (w32 (4 * a2)))) 15 = ((nb (uL x) a2.toNat : Nat) : Int) := by
  rw [w32_4 h0 h1, jshrL_e (by omega) hx, jand_15, nbI x (by omega)]
  unfold w32
  omega
theorem vX14_nibble (a0 : Int) (a2 : Int) (hx : jr64 a0) (hi : 0 ≤ a2 ∧ a2 < 16) : OK (gX14_nibble a0 a2) (fun r => r = ((nb (uL a0) a2.toNat : Nat) : Int)) := by
  unfold gX14_nibble
  refine OK_some ?_
  try dsimp only [Sum.elim_inl, Sum.elim_inr, jt2, jt3, jt4, jt5, jt6, jt7, jt8]
  exact jshr4 hx hi.1 hi.2 -- o1 e1
/-- the tables: where they lie -/
def TK (h : AH) (p1 p2 p3 p4 p8 : Int) : Prop := (h 454 141 = p1 ∧ h 454 142 = p2 ∧ h 454 143 = p3 ∧ h 454 144 = p4 ∧ h 454 148 = p8) ∧ ((h p1 (-2) = 102 ∧ h p1 (-1) = 111152) ∧ (h p2 (-2) = 102 ∧ h p2 (-1) = 111152) ∧ (h p3 (-2) = 101 ∧ h p3 (-1) = 111152) ∧ (h p4 (-2) = 103 ∧ h p4 (-1) = 111152) ∧ (h p8 (-2) = 101 ∧ h p8 (-1) = 262144)) ∧ 1078 ≤ p1 ∧ p1 < p2 ∧ p2 < p3 ∧ p3 < p4 ∧ p4 < p8
def PT (h : AH) (p1 p2 p8 N : Int) : Prop := prT 262144 N (h p8) (fun k => sumH (h p1 k) (h p2 k) 18)
theorem vX14_addState_l9 (i1 : Int) (i3 : Int) (i5 : Int) (i6 : Int) (a70 : Int) {h : AH} {p1 p2 p3 p4 p8 N D : Int} (hk : TK h p1 p2 p3 p4 p8) (hp : PT h p1 p2 p8 N) (hN : N ≤ 111152) (h7 : a70 = sumH i1 i3 18) (hD : 0 ≤ D ∧ D < 262144 ∧ h p8 (slP 262144 (sumH i1 i3 18) D) = 0) : OK (gX14_addState_l9 i1 i3 i5 i6 a70 h) (Sum.elim (fun _ => ∃ k, 0 ≤ k ∧ k < N ∧ h p1 k = i1 ∧ h p2 k = i3) (fun o => (∃ d, 0 ≤ d ∧ d < 262144 ∧ o = slP 262144 (sumH i1 i3 18) d ∧ h p8 o = 0 ∧ ∀ e, 0 ≤ e → e < d → h p8 (slP 262144 (sumH i1 i3 18) e) ≠ 0) ∧ (∀ k, 0 ≤ k → k < N → ¬ (h p1 k = i1 ∧ h p2 k = i3)))) := by
  have hb := sumH18 i1 i3
  obtain ⟨⟨k1, k2, k3, k4, k8⟩, ⟨s1, s2, s3, s4, s8⟩, z1, z2, z3, z4, z8⟩ := hk
  unfold gX14_addState_l9
  refine OK_jit (I := (fun (a7 : Int) => (0 ≤ a7 ∧ a7 < 262144 ∧ (a7 - sumH i1 i3 18) % 262144 ≤ D) ∧ (∀ e, 0 ≤ e → e < (a7 - sumH i1 i3 18) % 262144 → h p8 (slP 262144 (sumH i1 i3 18) e) ≠ 0 ∧ ¬ (h p1 (h p8 (slP 262144 (sumH i1 i3 18) e) - 1) = i1 ∧ h p2 (h p8 (slP 262144 (sumH i1 i3 18) e) - 1) = i3)))) (m := (fun (a7 : Int) => (D - (a7 - sumH i1 i3 18) % 262144).toNat)) ?_ ?_
  · intro a7 hs
    try dsimp only at hs
    obtain ⟨q0, q1⟩ := hs
    unfold gX14_addState_b9
    rw [k1, k2, k8]
    have tb := hp.2.2.1 a7 q0.1 q0.2.1
    have sl : slP 262144 (sumH i1 i3 18) ((a7 - sumH i1 i3 18) % 262144) = a7 := slP_i (by omega) q0.1 q0.2.1
    have nx : jand (a7 + 1) 262143 = (a7 + 1) % 262144 := by rw [jand_262143]
    have nD : h p8 a7 ≠ 0 → (a7 - sumH i1 i3 18) % 262144 ≠ D := fun z w => by rw [w] at sl; rw [sl] at hD; exact z hD.2.2
    have st : h p8 a7 ≠ 0 → ¬ (h p1 (h p8 a7 - 1) = i1 ∧ h p2 (h p8 a7 - 1) = i3) → ∀ e, 0 ≤ e → e < (jand (a7 + 1) 262143 - sumH i1 i3 18) % 262144 → h p8 (slP 262144 (sumH i1 i3 18) e) ≠ 0 ∧ ¬ (h p1 (h p8 (slP 262144 (sumH i1 i3 18) e) - 1) = i1 ∧ h p2 (h p8 (slP 262144 (sumH i1 i3 18) e) - 1) = i3) := fun y1 y2 e e0 e1 => by have := nD y1; rw [nx] at e1; by_cases w : e = (a7 - sumH i1 i3 18) % 262144; { rw [w, sl]; exact ⟨y1, y2⟩ }; { exact q1 e e0 (by omega) }
    refine OK_jg (by (first | assumption | omega | ((try dsimp only [jt2, jt3, jt4]); first | omega | (simp (disch := omega) only [jst_eq, jst_ne, jst_ni, jst_o, jI_i, jcpy_out, w32_id, jdiv_nn, jshr_k, jand_255] <;> first | done | omega | assumption)) | (intros; simp (disch := omega) only [jst_eq, jst_ne, jst_ni, jst_o, jI_i, jcpy_out, w32_id, jdiv_nn, *] <;> first | done | omega) | (intros; simp (disch := omega) only [jst_eq, jst_ne, jst_ni, jst_o, jI_i, jcpy_out, w32_id, jdiv_nn] at * <;> first | done | omega | assumption) | (intros; first | rfl | (exfalso; omega) | ((repeat' apply And.intro) <;> first | assumption | rfl | omega | trivial)))) ?_ -- o1
    refine OK_if (fun c1 => ?_) (fun c1 => ?_)
    · skip
      try simp (disch := omega) only [jst_eq, jst_ne, jst_ni, jI_i, jcmp_lt, jcmp_gt, w32_id, jcpy_out, Sum.elim_inl, Sum.elim_inr, jt2, jt3, jt4, jt5, jt6, jt7, jt8] at c1
      refine OK_ir ?_
      try dsimp only [Sum.elim_inl, Sum.elim_inr, jt2, jt3, jt4, jt5, jt6, jt7, jt8]
      refine ⟨?_, ?_⟩
      · exact ⟨(a7 - sumH i1 i3 18) % 262144, by omega, by omega, sl.symm, by omega, fun e e0 e1 => (q1 e e0 e1).1⟩ -- o2 e1.1
      · (rintro k k0 k1 ⟨w1, w2⟩; obtain ⟨e, e0, e1, e2⟩ := prT_m hp (x := sumH i1 i3 18) (D := (a7 - sumH i1 i3 18) % 262144) (by omega) (by rw [sl]; omega) k0 k1 (by show sumH (h p1 k) (h p2 k) 18 = _; rw [w1, w2]); refine (q1 e e0 e1).2 ?_; rw [e2, show k + 1 - 1 = k by omega]; exact ⟨w1, w2⟩) -- o3 e1.2
    · skip
      try simp (disch := omega) only [jst_eq, jst_ne, jst_ni, jI_i, jcmp_lt, jcmp_gt, w32_id, jcpy_out, Sum.elim_inl, Sum.elim_inr, jt2, jt3, jt4, jt5, jt6, jt7, jt8] at c1
      refine OK_jlx (fun x14 ex14 => ?_)
      try simp (disch := omega) only [jst_eq, jst_ne, jst_ni, jI_i, jcmp_lt, jcmp_gt, w32_id, jcpy_out, Sum.elim_inl, Sum.elim_inr, jt2, jt3, jt4, jt5, jt6, jt7, jt8] at ex14
      have w14 : x14 = h p8 a7 - 1 := by { omega }
      refine OK_jg (by (first | assumption | omega | ((try dsimp only [jt2, jt3, jt4]); first | omega | (simp (disch := omega) only [jst_eq, jst_ne, jst_ni, jst_o, jI_i, jcpy_out, w32_id, jdiv_nn, jshr_k, jand_255] <;> first | done | omega | assumption)) | (intros; simp (disch := omega) only [jst_eq, jst_ne, jst_ni, jst_o, jI_i, jcpy_out, w32_id, jdiv_nn, *] <;> first | done | omega) | (intros; simp (disch := omega) only [jst_eq, jst_ne, jst_ni, jst_o, jI_i, jcpy_out, w32_id, jdiv_nn] at * <;> first | done | omega | assumption) | (intros; first | rfl | (exfalso; omega) | ((repeat' apply And.intro) <;> first | assumption | rfl | omega | trivial)))) ?_ -- o4
      refine OK_if (fun c2 => ?_) (fun c2 => ?_)
      · skip
        try simp (disch := omega) only [jst_eq, jst_ne, jst_ni, jI_i, jcmp_lt, jcmp_gt, w32_id, jcpy_out, Sum.elim_inl, Sum.elim_inr, jt2, jt3, jt4, jt5, jt6, jt7, jt8] at c2
        refine OK_jg (by (first | assumption | omega | ((try dsimp only [jt2, jt3, jt4]); first | omega | (simp (disch := omega) only [jst_eq, jst_ne, jst_ni, jst_o, jI_i, jcpy_out, w32_id, jdiv_nn, jshr_k, jand_255] <;> first | done | omega | assumption)) | (intros; simp (disch := omega) only [jst_eq, jst_ne, jst_ni, jst_o, jI_i, jcpy_out, w32_id, jdiv_nn, *] <;> first | done | omega) | (intros; simp (disch := omega) only [jst_eq, jst_ne, jst_ni, jst_o, jI_i, jcpy_out, w32_id, jdiv_nn] at * <;> first | done | omega | assumption) | (intros; first | rfl | (exfalso; omega) | ((repeat' apply And.intro) <;> first | assumption | rfl | omega | trivial)))) ?_ -- o5
        refine OK_if (fun c3 => ?_) (fun c3 => ?_)
        · skip
          try simp (disch := omega) only [jst_eq, jst_ne, jst_ni, jI_i, jcmp_lt, jcmp_gt, w32_id, jcpy_out, Sum.elim_inl, Sum.elim_inr, jt2, jt3, jt4, jt5, jt6, jt7, jt8] at c3
          refine OK_ir ?_
          exact ⟨x14, by omega, by omega, jcmp_eq.mp c2, jcmp_eq.mp c3⟩ -- o6 e2
        · skip
          try simp (disch := omega) only [jst_eq, jst_ne, jst_ni, jI_i, jcmp_lt, jcmp_gt, w32_id, jcpy_out, Sum.elim_inl, Sum.elim_inr, jt2, jt3, jt4, jt5, jt6, jt7, jt8] at c3
          unfold gX14_addState_j55_9
          refine OK_jlx (fun x17 ex17 => ?_)
          try simp (disch := omega) only [jst_eq, jst_ne, jst_ni, jI_i, jcmp_lt, jcmp_gt, w32_id, jcpy_out, Sum.elim_inl, Sum.elim_inr, jt2, jt3, jt4, jt5, jt6, jt7, jt8] at ex17
          refine OK_il ?_ ?_
          · try dsimp only [Sum.elim_inl, Sum.elim_inr, jt2, jt3, jt4, jt5, jt6, jt7, jt8]
            refine ⟨?_, ?_⟩
            · (have := nD (by omega); rw [ex17, nx]; omega) -- o7 e3i.1
            · (rw [ex17]; exact st (by omega) (fun w => c3 (jcmp_eq.mpr (by rw [w14]; exact w.2)))) -- o8 e3i.2
          · (have := nD (by omega); rw [ex17, nx]; omega) -- o9 e3m
      · skip
        try simp (disch := omega) only [jst_eq, jst_ne, jst_ni, jI_i, jcmp_lt, jcmp_gt, w32_id, jcpy_out, Sum.elim_inl, Sum.elim_inr, jt2, jt3, jt4, jt5, jt6, jt7, jt8] at c2
        unfold gX14_addState_j55_9
        refine OK_jlx (fun x17 ex17 => ?_)
        try simp (disch := omega) only [jst_eq, jst_ne, jst_ni, jI_i, jcmp_lt, jcmp_gt, w32_id, jcpy_out, Sum.elim_inl, Sum.elim_inr, jt2, jt3, jt4, jt5, jt6, jt7, jt8] at ex17
        refine OK_il ?_ ?_
        · try dsimp only [Sum.elim_inl, Sum.elim_inr, jt2, jt3, jt4, jt5, jt6, jt7, jt8]
          refine ⟨?_, ?_⟩
          · (have := nD (by omega); rw [ex17, nx]; omega) -- o10 e4i.1
          · (rw [ex17]; exact st (by omega) (fun w => c2 (jcmp_eq.mpr (by rw [w14]; exact w.1)))) -- o11 e4i.2
        · (have := nD (by omega); rw [ex17, nx]; omega) -- o12 e4m
  · try dsimp only [Sum.elim_inl, Sum.elim_inr, jt2, jt3, jt4, jt5, jt6, jt7, jt8]
    refine ⟨?_, ?_⟩
    · (rw [h7]; omega) -- o13 init.1
    · (rw [h7]; intro e e0 e1; omega) -- o14 init.2
/-- a row that is added -/
def adS (h h' : AH) (p1 p2 p3 p4 p8 N a b f y : Int) : Prop := (h' p1 N = a ∧ h' p2 N = b ∧ h' p3 N = f ∧ h' p4 N = y ∧ h' 454 145 = N + 1) ∧ PT h' p1 p2 p8 (N + 1) ∧ ∀ a s, ¬ ((a = p1 ∨ a = p2 ∨ a = p3 ∨ a = p4) ∧ s = N) → ¬ (a = 454 ∧ s = 145) → ¬ (a = p8 ∧ 0 ≤ s) → h' a s = h a s
def adC (h h' : AH) (p1 p2 p3 p4 p8 N a b f y : Int) : Prop := (h' = h ∧ ∃ k, 0 ≤ k ∧ k < N ∧ h p1 k = a ∧ h p2 k = b) ∨ adS h h' p1 p2 p3 p4 p8 N a b f y
theorem adS_mk {h : AH} {p1 p2 p3 p4 p8 N a b f y o d : Int} (z : 1078 ≤ p1 ∧ p1 < p2 ∧ p2 < p3 ∧ p3 < p4 ∧ p4 < p8) (hp : PT h p1 p2 p8 N) (N0 : 0 ≤ N) (d0 : 0 ≤ d) (d1 : d < 262144) (eo : o = slP 262144 (sumH a b 18) d) (zo : h p8 o = 0) (ne : ∀ e, 0 ≤ e → e < d → h p8 (slP 262144 (sumH a b 18) e) ≠ 0) : adS h (jst (jst (jst (jst (jst (jst h p1 N a) p2 N b) p3 N f) p4 N y) 454 145 (N + 1)) p8 o (N + 1)) p1 p2 p3 p4 p8 N a b f y := by
  have hb := sumH18 a b
  have ob : 0 ≤ o := by rw [eo]; exact (slP_b (by omega)).1
  refine ⟨⟨?_, ?_, ?_, ?_, ?_⟩, ?_, fun a' s y1 y2 y3 => ?_⟩
  · rw [jst_ne (by omega), jst_ne (by omega), jst_ne (by omega), jst_ne (by omega), jst_ne (by omega), jst_eq]
  · rw [jst_ne (by omega), jst_ne (by omega), jst_ne (by omega), jst_ne (by omega), jst_eq]
  · rw [jst_ne (by omega), jst_ne (by omega), jst_ne (by omega), jst_eq]
  · rw [jst_ne (by omega), jst_ne (by omega), jst_eq]
  · rw [jst_ne (by omega), jst_eq]
  · have g := prT_n hp (x := sumH a b 18) (D := d) hb.1 hb.2 d0 d1 (by rw [← eo]; exact zo) ne
    rw [← eo] at g
    refine prT_c g (fun p p0 p1 => ?_) (fun k k0 k1 => ?_)
    · by_cases w : p = o
      · rw [w, jst_eq, up1_e]
      · rw [jst_ni w, jst_ne (by omega), jst_ne (by omega), jst_ne (by omega), jst_ne (by omega), jst_ne (by omega), up1_o w]
    · show sumH (jst (jst (jst (jst (jst (jst h p1 N a) p2 N b) p3 N f) p4 N y) 454 145 (N + 1)) p8 o (N + 1) p1 k) (jst (jst (jst (jst (jst (jst h p1 N a) p2 N b) p3 N f) p4 N y) 454 145 (N + 1)) p8 o (N + 1) p2 k) 18 = _
      rw [jst_ne (by omega), jst_ne (by omega), jst_ne (by omega), jst_ne (by omega), jst_ne (by omega), jst_ne (b := p2) (a := p8) (by omega), jst_ne (b := p2) (a := 454) (by omega), jst_ne (b := p2) (a := p4) (by omega), jst_ne (b := p2) (a := p3) (by omega)]
      by_cases w : k = N
      · rw [w, jst_eq, jst_eq, up1_e]
      · rw [jst_ni w, jst_ni w, jst_ne (by omega), up1_o w]
  · rw [jst_o (by omega), jst_o (by omega), jst_o (by omega), jst_o (by omega), jst_o (by omega), jst_o (by omega)]
theorem vX14_addState (a1 : Int) (a3 : Int) (a5 : Int) (a6 : Int) {h : AH} {p1 p2 p3 p4 p8 N : Int} (hk : TK h p1 p2 p3 p4 p8) (hp : PT h p1 p2 p8 N) (hN : h 454 145 = N ∧ 0 ≤ N ∧ N < 111152) (ha : 0 ≤ a6 ∧ a6 < 18) : OK (gX14_addState a1 a3 a5 a6 h) (fun h' => adC h h' p1 p2 p3 p4 p8 N a1 a3 a5 a6) := by
  have hk' := hk
  obtain ⟨⟨k1, k2, k3, k4, k8⟩, ⟨s1, s2, s3, s4, s8⟩, z1, z2, z3, z4, z8⟩ := hk
  have hN0 := hN.1
  obtain ⟨D, hD⟩ := prT_e hp (by omega) (sumH a1 a3 18)
  have hb := sumH18 a1 a3
  unfold gX14_addState
  refine OK_jb (vX14_sumOf _ _ _) (fun v2 r1 => ?_)
  try dsimp only [Sum.elim_inl, Sum.elim_inr, jt2, jt3, jt4, jt5, jt6, jt7, jt8] at r1
  have v1 := r1
  clear r1
  try simp (disch := omega) only [jst_eq, jst_ne, jst_ni, jI_i, jcmp_lt, jcmp_gt, w32_id, jcpy_out, Sum.elim_inl, Sum.elim_inr, jt2, jt3, jt4, jt5, jt6, jt7, jt8] at v1
  refine OK_jb (vX14_addState_l9 (p1 := p1) (p2 := p2) (p3 := p3) (p4 := p4) (p8 := p8) (N := N) (D := D) _ _ _ _ _ (by (first | assumption | omega | ((try dsimp only [jt2, jt3, jt4]); first | omega | (simp (disch := omega) only [jst_eq, jst_ne, jst_ni, jst_o, jI_i, jcpy_out, w32_id, jdiv_nn, jshr_k, jand_255] <;> first | done | omega | assumption)) | (intros; simp (disch := omega) only [jst_eq, jst_ne, jst_ni, jst_o, jI_i, jcpy_out, w32_id, jdiv_nn, *] <;> first | done | omega) | (intros; simp (disch := omega) only [jst_eq, jst_ne, jst_ni, jst_o, jI_i, jcpy_out, w32_id, jdiv_nn] at * <;> first | done | omega | assumption) | (intros; first | rfl | (exfalso; omega) | ((repeat' apply And.intro) <;> first | assumption | rfl | omega | trivial)))) (by (first | assumption | omega | ((try dsimp only [jt2, jt3, jt4]); first | omega | (simp (disch := omega) only [jst_eq, jst_ne, jst_ni, jst_o, jI_i, jcpy_out, w32_id, jdiv_nn, jshr_k, jand_255] <;> first | done | omega | assumption)) | (intros; simp (disch := omega) only [jst_eq, jst_ne, jst_ni, jst_o, jI_i, jcpy_out, w32_id, jdiv_nn, *] <;> first | done | omega) | (intros; simp (disch := omega) only [jst_eq, jst_ne, jst_ni, jst_o, jI_i, jcpy_out, w32_id, jdiv_nn] at * <;> first | done | omega | assumption) | (intros; first | rfl | (exfalso; omega) | ((repeat' apply And.intro) <;> first | assumption | rfl | omega | trivial)))) (by (first | assumption | omega | ((try dsimp only [jt2, jt3, jt4]); first | omega | (simp (disch := omega) only [jst_eq, jst_ne, jst_ni, jst_o, jI_i, jcpy_out, w32_id, jdiv_nn, jshr_k, jand_255] <;> first | done | omega | assumption)) | (intros; simp (disch := omega) only [jst_eq, jst_ne, jst_ni, jst_o, jI_i, jcpy_out, w32_id, jdiv_nn, *] <;> first | done | omega) | (intros; simp (disch := omega) only [jst_eq, jst_ne, jst_ni, jst_o, jI_i, jcpy_out, w32_id, jdiv_nn] at * <;> first | done | omega | assumption) | (intros; first | rfl | (exfalso; omega) | ((repeat' apply And.intro) <;> first | assumption | rfl | omega | trivial)))) (by (first | assumption | omega | ((try dsimp only [jt2, jt3, jt4]); first | omega | (simp (disch := omega) only [jst_eq, jst_ne, jst_ni, jst_o, jI_i, jcpy_out, w32_id, jdiv_nn, jshr_k, jand_255] <;> first | done | omega | assumption)) | (intros; simp (disch := omega) only [jst_eq, jst_ne, jst_ni, jst_o, jI_i, jcpy_out, w32_id, jdiv_nn, *] <;> first | done | omega) | (intros; simp (disch := omega) only [jst_eq, jst_ne, jst_ni, jst_o, jI_i, jcpy_out, w32_id, jdiv_nn] at * <;> first | done | omega | assumption) | (intros; first | rfl | (exfalso; omega) | ((repeat' apply And.intro) <;> first | assumption | rfl | omega | trivial)))) (by (first | assumption | omega | ((try dsimp only [jt2, jt3, jt4]); first | omega | (simp (disch := omega) only [jst_eq, jst_ne, jst_ni, jst_o, jI_i, jcpy_out, w32_id, jdiv_nn, jshr_k, jand_255] <;> first | done | omega | assumption)) | (intros; simp (disch := omega) only [jst_eq, jst_ne, jst_ni, jst_o, jI_i, jcpy_out, w32_id, jdiv_nn, *] <;> first | done | omega) | (intros; simp (disch := omega) only [jst_eq, jst_ne, jst_ni, jst_o, jI_i, jcpy_out, w32_id, jdiv_nn] at * <;> first | done | omega | assumption) | (intros; first | rfl | (exfalso; omega) | ((repeat' apply And.intro) <;> first | assumption | rfl | omega | trivial))))) (fun o3 r2 => ?_)
  rcases o3 with o5 | o6
  · skip
    have r3 := r2; clear r2
    dsimp only [Sum.elim_inl, Sum.elim_inr] at r3
    try dsimp only [Sum.elim_inl, Sum.elim_inr, jt2, jt3, jt4, jt5, jt6, jt7, jt8] at r3
    have ye2 := r3
    clear r3
    try simp (disch := omega) only [jst_eq, jst_ne, jst_ni, jI_i, jcmp_lt, jcmp_gt, w32_id, jcpy_out, Sum.elim_inl, Sum.elim_inr, jt2, jt3, jt4, jt5, jt6, jt7, jt8] at ye2
    refine OK_jml ?_
    refine OK_some ?_
    try dsimp only [Sum.elim_inl, Sum.elim_inr, jt2, jt3, jt4, jt5, jt6, jt7, jt8]
    exact Or.inl ⟨rfl, ye2⟩ -- o6 e1
  · skip
    have r4 := r2; clear r2
    dsimp only [Sum.elim_inl, Sum.elim_inr] at r4
    try dsimp only [Sum.elim_inl, Sum.elim_inr, jt2, jt3, jt4, jt5, jt6, jt7, jt8] at r4
    obtain ⟨sl3, no3⟩ := r4
    try simp (disch := omega) only [jst_eq, jst_ne, jst_ni, jI_i, jcmp_lt, jcmp_gt, w32_id, jcpy_out, Sum.elim_inl, Sum.elim_inr, jt2, jt3, jt4, jt5, jt6, jt7, jt8] at sl3
    try simp (disch := omega) only [jst_eq, jst_ne, jst_ni, jI_i, jcmp_lt, jcmp_gt, w32_id, jcpy_out, Sum.elim_inl, Sum.elim_inr, jt2, jt3, jt4, jt5, jt6, jt7, jt8] at no3
    refine OK_jmr ?_
    obtain ⟨d, d0, d1, eo, zo, ne⟩ := sl3
    have ob := slP_b (M := 262144) (h := sumH a1 a3 18) (d := d) (by omega)
    rw [← eo] at ob
    try simp (disch := omega) only [jst_ne, jst_ni, jst_eq, k1, k2, k3, k4, k8, hN0, w32_id, ji2b_id]
    refine OK_jg (by (first | assumption | omega | ((try dsimp only [jt2, jt3, jt4]); first | omega | (simp (disch := omega) only [jst_eq, jst_ne, jst_ni, jst_o, jI_i, jcpy_out, w32_id, jdiv_nn, jshr_k, jand_255] <;> first | done | omega | assumption)) | (intros; simp (disch := omega) only [jst_eq, jst_ne, jst_ni, jst_o, jI_i, jcpy_out, w32_id, jdiv_nn, *] <;> first | done | omega) | (intros; simp (disch := omega) only [jst_eq, jst_ne, jst_ni, jst_o, jI_i, jcpy_out, w32_id, jdiv_nn] at * <;> first | done | omega | assumption) | (intros; first | rfl | (exfalso; omega) | ((repeat' apply And.intro) <;> first | assumption | rfl | omega | trivial)))) ?_ -- o7
    refine OK_jl ?_
    try simp (disch := omega) only [jst_ne, jst_ni, jst_eq, k1, k2, k3, k4, k8, hN0, w32_id, ji2b_id]
    refine OK_jg (by (first | assumption | omega | ((try dsimp only [jt2, jt3, jt4]); first | omega | (simp (disch := omega) only [jst_eq, jst_ne, jst_ni, jst_o, jI_i, jcpy_out, w32_id, jdiv_nn, jshr_k, jand_255] <;> first | done | omega | assumption)) | (intros; simp (disch := omega) only [jst_eq, jst_ne, jst_ni, jst_o, jI_i, jcpy_out, w32_id, jdiv_nn, *] <;> first | done | omega) | (intros; simp (disch := omega) only [jst_eq, jst_ne, jst_ni, jst_o, jI_i, jcpy_out, w32_id, jdiv_nn] at * <;> first | done | omega | assumption) | (intros; first | rfl | (exfalso; omega) | ((repeat' apply And.intro) <;> first | assumption | rfl | omega | trivial)))) ?_ -- o8
    refine OK_jl ?_
    try simp (disch := omega) only [jst_ne, jst_ni, jst_eq, k1, k2, k3, k4, k8, hN0, w32_id, ji2b_id]
    refine OK_jg (by (first | assumption | omega | ((try dsimp only [jt2, jt3, jt4]); first | omega | (simp (disch := omega) only [jst_eq, jst_ne, jst_ni, jst_o, jI_i, jcpy_out, w32_id, jdiv_nn, jshr_k, jand_255] <;> first | done | omega | assumption)) | (intros; simp (disch := omega) only [jst_eq, jst_ne, jst_ni, jst_o, jI_i, jcpy_out, w32_id, jdiv_nn, *] <;> first | done | omega) | (intros; simp (disch := omega) only [jst_eq, jst_ne, jst_ni, jst_o, jI_i, jcpy_out, w32_id, jdiv_nn] at * <;> first | done | omega | assumption) | (intros; first | rfl | (exfalso; omega) | ((repeat' apply And.intro) <;> first | assumption | rfl | omega | trivial)))) ?_ -- o9
    refine OK_jl ?_
    try simp (disch := omega) only [jst_ne, jst_ni, jst_eq, k1, k2, k3, k4, k8, hN0, w32_id, ji2b_id]
    refine OK_jg (by (first | assumption | omega | ((try dsimp only [jt2, jt3, jt4]); first | omega | (simp (disch := omega) only [jst_eq, jst_ne, jst_ni, jst_o, jI_i, jcpy_out, w32_id, jdiv_nn, jshr_k, jand_255] <;> first | done | omega | assumption)) | (intros; simp (disch := omega) only [jst_eq, jst_ne, jst_ni, jst_o, jI_i, jcpy_out, w32_id, jdiv_nn, *] <;> first | done | omega) | (intros; simp (disch := omega) only [jst_eq, jst_ne, jst_ni, jst_o, jI_i, jcpy_out, w32_id, jdiv_nn] at * <;> first | done | omega | assumption) | (intros; first | rfl | (exfalso; omega) | ((repeat' apply And.intro) <;> first | assumption | rfl | omega | trivial)))) ?_ -- o10
    refine OK_jl ?_
    try simp (disch := omega) only [jst_ne, jst_ni, jst_eq, k1, k2, k3, k4, k8, hN0, w32_id, ji2b_id]
    refine OK_jl ?_
    try simp (disch := omega) only [jst_ne, jst_ni, jst_eq, k1, k2, k3, k4, k8, hN0, w32_id, ji2b_id]
    refine OK_jg (by (first | assumption | omega | ((try dsimp only [jt2, jt3, jt4]); first | omega | (simp (disch := omega) only [jst_eq, jst_ne, jst_ni, jst_o, jI_i, jcpy_out, w32_id, jdiv_nn, jshr_k, jand_255] <;> first | done | omega | assumption)) | (intros; simp (disch := omega) only [jst_eq, jst_ne, jst_ni, jst_o, jI_i, jcpy_out, w32_id, jdiv_nn, *] <;> first | done | omega) | (intros; simp (disch := omega) only [jst_eq, jst_ne, jst_ni, jst_o, jI_i, jcpy_out, w32_id, jdiv_nn] at * <;> first | done | omega | assumption) | (intros; first | rfl | (exfalso; omega) | ((repeat' apply And.intro) <;> first | assumption | rfl | omega | trivial)))) ?_ -- o11
    refine OK_jl ?_
    try simp (disch := omega) only [jst_ne, jst_ni, jst_eq, k1, k2, k3, k4, k8, hN0, w32_id, ji2b_id]
    refine OK_some ?_
    try dsimp only [Sum.elim_inl, Sum.elim_inr, jt2, jt3, jt4, jt5, jt6, jt7, jt8]
    exact Or.inr (adS_mk ⟨z1, z2, z3, z4, z8⟩ hp hN.2.1 d0 d1 eo zo ne) -- o12 e2
/-- a level that is made -/
def LVI (h : AH) (p1 p2 p3 p4 p8 : Int) (L : Nat) (k x : Int) : Prop := TK h p1 p2 p3 p4 p8 ∧ (h 454 146 = L ∧ 1 ≤ L ∧ L ≤ 4) ∧ ∃ cd N, PT h p1 p2 p8 N ∧ h 454 145 = N ∧ PLv (h p1) (h p2) (h p3) (h p4) cd (h 871) L N k x
def frB (p1 p2 p3 p4 p8 : Int) (h h' : AH) : Prop := ∀ a s, ¬ ((a = p1 ∨ a = p2 ∨ a = p3 ∨ a = p4 ∨ a = p8) ∧ 0 ≤ s) → ¬ (a = 454 ∧ s = 145) → h' a s = h a s
theorem TK_f {h h' : AH} {p1 p2 p3 p4 p8 : Int} (t : TK h p1 p2 p3 p4 p8) (f : frB p1 p2 p3 p4 p8 h h') : TK h' p1 p2 p3 p4 p8 := by
  obtain ⟨⟨k1, k2, k3, k4, k8⟩, ⟨s1, s2, s3, s4, s8⟩, z1, z2, z3, z4, z8⟩ := t
  unfold TK
  rw [f 454 141 (by omega) (by omega), f 454 142 (by omega) (by omega), f 454 143 (by omega) (by omega), f 454 144 (by omega) (by omega), f 454 148 (by omega) (by omega), f p1 (-2) (by omega) (by omega), f p1 (-1) (by omega) (by omega), f p2 (-2) (by omega) (by omega), f p2 (-1) (by omega) (by omega), f p3 (-2) (by omega) (by omega), f p3 (-1) (by omega) (by omega), f p4 (-2) (by omega) (by omega), f p4 (-1) (by omega) (by omega), f p8 (-2) (by omega) (by omega), f p8 (-1) (by omega) (by omega)]
  exact ⟨⟨k1, k2, k3, k4, k8⟩, ⟨s1, s2, s3, s4, s8⟩, z1, z2, z3, z4, z8⟩
theorem szB_5 : szB 5 = 111151 := by decide +kernel
theorem szB_m {n : Nat} (h : n ≤ 5) : szB n ≤ 111151 := by
  have q : n = 0 ∨ n = 1 ∨ n = 2 ∨ n = 3 ∨ n = 4 ∨ n = 5 := by omega
  rcases q with rfl | rfl | rfl | rfl | rfl | rfl <;> decide +kernel
theorem LVI_s {h h' : AH} {p1 p2 p3 p4 p8 : Int} {L : Nat} {k x a b : Int} (w : LVI h p1 p2 p3 p4 p8 L k x) (kl : k < h 871 L) (x1 : x < 18) (c : adC h h' p1 p2 p3 p4 p8 (h 454 145) a b k x) (e : (a, b) = stpL x.toNat (h p1 k, h p2 k)) : LVI h' p1 p2 p3 p4 p8 L k (x + 1) ∧ frB p1 p2 p3 p4 p8 h h' := by
  obtain ⟨t, l, cd, N, pt, hN, pl⟩ := w
  have tz := t.2.2
  rw [hN] at c
  have N0 : 0 ≤ N := pt.2.1
  rcases c with ⟨e1, k', k0, k1, k2, k3⟩ | ⟨⟨c1, c2, c3, c4, c5⟩, c6, c7⟩
  · subst e1
    exact ⟨⟨t, l, cd, N, pt, hN, PLv_f pl kl x1 k0 k1 (by rw [k2, k3]; exact e)⟩, fun _ _ _ _ => rfl⟩
  · have f : frB p1 p2 p3 p4 p8 h h' := fun a' s y1 y2 => c7 a' s (by omega) y2 (by omega)
    refine ⟨⟨TK_f t f, by rw [f 454 146 (by omega) (by omega)]; exact l, up1 cd N (18 * cd k + x.toNat), N + 1, c6, c5, ?_⟩, f⟩
    have e871 : h' 871 = h 871 := funext fun s => f 871 s (by omega) (by omega)
    rw [e871]
    refine PLv_n pl kl x1 (fun k' y1 y2 => ?_) (by rw [c1, c2]; exact e) c3 c4
    exact ⟨c7 _ _ (by omega) (by omega) (by omega), c7 _ _ (by omega) (by omega) (by omega), c7 _ _ (by omega) (by omega) (by omega), c7 _ _ (by omega) (by omega) (by omega)⟩
theorem LVI_r {h : AH} {p1 p2 p3 p4 p8 : Int} {L : Nat} {k x : Int} (w : LVI h p1 p2 p3 p4 p8 L k x) (kl : k < h 871 L) : (jr64 (h p1 k) ∧ jr64 (h p2 k)) ∧ (0 ≤ k ∧ k < 111152) ∧ 0 ≤ h 454 145 ∧ h 454 145 < 111152 := by
  obtain ⟨t, l, cd, N, pt, hN, pl⟩ := w
  have s1 : FUL (h p1) (h p2) (h p3) (h p4) cd (h 871) L := pl.1
  have s := s1.2.2.1 (L - 1) (by omega) k (by rw [show ((L - 1 : Nat) : Int) = (L : Int) - 1 by omega]; exact pl.2.2.2.1.1) (by rw [show ((L - 1 : Nat) : Int) + 1 = (L : Int) by omega]; exact kl)
  have r := runL_r (L - 1) (cd k)
  rw [← s.2.1] at r
  have m := (PLv_b pl).2
  have q := szB_m (n := L + 1) (by omega)
  have b0 := (FUL_sz (FUL_lt s1 (show L - 1 ≤ L by omega))).1
  rw [show ((L - 1 : Nat) : Int) = (L : Int) - 1 by omega] at b0
  have b1 := pl.2.2.1
  have b2 := pl.2.2.2.1
  have b3 := pt.2.1
  exact ⟨r, ⟨by omega, by omega⟩, by omega, by omega⟩
theorem vX14_findLevel_l121 (i1 : Int) (i2 : Int) (a30 : Int) (a50 : Int) (a70 : Int) {h : AH} {p1 p2 p3 p4 p8 : Int} {c : Nat} (hk : TK h p1 p2 p3 p4 p8) (hi : 0 ≤ i1 ∧ i1 < 111152 ∧ i2 = c ∧ c < 18) (hr : jr64 (h p1 i1) ∧ jr64 (h p2 i1)) (h0 : a30 = 0 ∧ a50 = 0 ∧ a70 = 0) : OK (gX14_findLevel_l121 i1 i2 a30 a50 a70 h) (fun r => jt2 r fun y z => y = AL c (h p1 i1) (h p2 i1) ∧ z = BL c (h p1 i1) (h p2 i1)) := by
  obtain ⟨⟨k1, k2, k3, k4, k8⟩, ⟨s1, s2, s3, s4, s8⟩, z1, z2, z3, z4, z8⟩ := hk
  unfold gX14_findLevel_l121
  refine OK_jit (I := (fun (s : Int × Int × Int) => jt3 s fun a3 a5 a7 => (0 ≤ a7 ∧ a7 ≤ 16) ∧ (jr64 a3 ∧ ∀ j, j < 16 → nb (uL a3) j = if j < a7.toNat then qA c (nb (uL (h p1 i1)) j) (nb (uL (h p2 i1)) j) else 0) ∧ (jr64 a5 ∧ ∀ j, j < 16 → nb (uL a5) j = if j < a7.toNat then qB c (nb (uL (h p1 i1)) j) (nb (uL (h p2 i1)) j) else 0))) (m := (fun (s : Int × Int × Int) => jt3 s fun a3 a5 a7 => (16 - a7).toNat)) ?_ ?_
  · intro s hs
    obtain ⟨a3, a5, a7⟩ := s
    dsimp only [Sum.elim_inl, Sum.elim_inr, jt2, jt3, jt4, jt5, jt6, jt7, jt8] at hs
    obtain ⟨q0, q1, q2⟩ := hs
    unfold gX14_findLevel_b121
    refine OK_jt3 ?_
    rw [k1, k2]
    refine OK_if (fun c1 => ?_) (fun c1 => ?_)
    · skip
      try simp (disch := omega) only [jst_eq, jst_ne, jst_ni, jI_i, jcmp_lt, jcmp_gt, w32_id, jcpy_out, Sum.elim_inl, Sum.elim_inr, jt2, jt3, jt4, jt5, jt6, jt7, jt8] at c1
      refine OK_ir ?_
      (have e16 : a7.toNat = 16 := (by omega); rw [e16] at q1 q2; exact ⟨orS_e q1.1 (AL_r hr.1 hr.2) q1.2 (fun j l => AL_n hi.2.2.2 _ _ l), orS_e q2.1 (BL_r hr.1 hr.2) q2.2 (fun j l => BL_n hi.2.2.2 _ _ l)⟩) -- o1 e1
    · skip
      try simp (disch := omega) only [jst_eq, jst_ne, jst_ni, jI_i, jcmp_lt, jcmp_gt, w32_id, jcpy_out, Sum.elim_inl, Sum.elim_inr, jt2, jt3, jt4, jt5, jt6, jt7, jt8] at c1
      refine OK_jg (by (first | assumption | omega | ((try dsimp only [jt2, jt3, jt4]); first | omega | (simp (disch := omega) only [jst_eq, jst_ne, jst_ni, jst_o, jI_i, jcpy_out, w32_id, jdiv_nn, jshr_k, jand_255] <;> first | done | omega | assumption)) | (intros; simp (disch := omega) only [jst_eq, jst_ne, jst_ni, jst_o, jI_i, jcpy_out, w32_id, jdiv_nn, *] <;> first | done | omega) | (intros; simp (disch := omega) only [jst_eq, jst_ne, jst_ni, jst_o, jI_i, jcpy_out, w32_id, jdiv_nn] at * <;> first | done | omega | assumption) | (intros; first | rfl | (exfalso; omega) | ((repeat' apply And.intro) <;> first | assumption | rfl | omega | trivial)))) ?_ -- o2
      refine OK_jb (vX14_nibble _ _ (by exact hr.1) (by (first | assumption | omega | ((try dsimp only [jt2, jt3, jt4]); first | omega | (simp (disch := omega) only [jst_eq, jst_ne, jst_ni, jst_o, jI_i, jcpy_out, w32_id, jdiv_nn, jshr_k, jand_255] <;> first | done | omega | assumption)) | (intros; simp (disch := omega) only [jst_eq, jst_ne, jst_ni, jst_o, jI_i, jcpy_out, w32_id, jdiv_nn, *] <;> first | done | omega) | (intros; simp (disch := omega) only [jst_eq, jst_ne, jst_ni, jst_o, jI_i, jcpy_out, w32_id, jdiv_nn] at * <;> first | done | omega | assumption) | (intros; first | rfl | (exfalso; omega) | ((repeat' apply And.intro) <;> first | assumption | rfl | omega | trivial))))) (fun v34 r1 => ?_)
      try dsimp only [Sum.elim_inl, Sum.elim_inr, jt2, jt3, jt4, jt5, jt6, jt7, jt8] at r1
      have v1 := r1
      clear r1
      try simp (disch := omega) only [jst_eq, jst_ne, jst_ni, jI_i, jcmp_lt, jcmp_gt, w32_id, jcpy_out, Sum.elim_inl, Sum.elim_inr, jt2, jt3, jt4, jt5, jt6, jt7, jt8] at v1
      refine OK_jg (by (first | assumption | omega | ((try dsimp only [jt2, jt3, jt4]); first | omega | (simp (disch := omega) only [jst_eq, jst_ne, jst_ni, jst_o, jI_i, jcpy_out, w32_id, jdiv_nn, jshr_k, jand_255] <;> first | done | omega | assumption)) | (intros; simp (disch := omega) only [jst_eq, jst_ne, jst_ni, jst_o, jI_i, jcpy_out, w32_id, jdiv_nn, *] <;> first | done | omega) | (intros; simp (disch := omega) only [jst_eq, jst_ne, jst_ni, jst_o, jI_i, jcpy_out, w32_id, jdiv_nn] at * <;> first | done | omega | assumption) | (intros; first | rfl | (exfalso; omega) | ((repeat' apply And.intro) <;> first | assumption | rfl | omega | trivial)))) ?_ -- o5
      refine OK_jb (vX14_nibble _ _ (by exact hr.2) (by (first | assumption | omega | ((try dsimp only [jt2, jt3, jt4]); first | omega | (simp (disch := omega) only [jst_eq, jst_ne, jst_ni, jst_o, jI_i, jcpy_out, w32_id, jdiv_nn, jshr_k, jand_255] <;> first | done | omega | assumption)) | (intros; simp (disch := omega) only [jst_eq, jst_ne, jst_ni, jst_o, jI_i, jcpy_out, w32_id, jdiv_nn, *] <;> first | done | omega) | (intros; simp (disch := omega) only [jst_eq, jst_ne, jst_ni, jst_o, jI_i, jcpy_out, w32_id, jdiv_nn] at * <;> first | done | omega | assumption) | (intros; first | rfl | (exfalso; omega) | ((repeat' apply And.intro) <;> first | assumption | rfl | omega | trivial))))) (fun v36 r2 => ?_)
      try dsimp only [Sum.elim_inl, Sum.elim_inr, jt2, jt3, jt4, jt5, jt6, jt7, jt8] at r2
      have v2 := r2
      clear r2
      try simp (disch := omega) only [jst_eq, jst_ne, jst_ni, jI_i, jcmp_lt, jcmp_gt, w32_id, jcpy_out, Sum.elim_inl, Sum.elim_inr, jt2, jt3, jt4, jt5, jt6, jt7, jt8] at v2
      refine OK_jb (vX14_stepA (c := c) (p := nb (uL (h p1 i1)) a7.toNat) (q := nb (uL (h p2 i1)) a7.toNat) _ _ _ (by exact ⟨⟨hi.2.2.1, hi.2.2.2⟩, ⟨v1, nb_lt _ _⟩, v2, nb_lt _ _⟩)) (fun v38 r3 => ?_)
      try dsimp only [Sum.elim_inl, Sum.elim_inr, jt2, jt3, jt4, jt5, jt6, jt7, jt8] at r3
      have v3 := r3
      clear r3
      try simp (disch := omega) only [jst_eq, jst_ne, jst_ni, jI_i, jcmp_lt, jcmp_gt, w32_id, jcpy_out, Sum.elim_inl, Sum.elim_inr, jt2, jt3, jt4, jt5, jt6, jt7, jt8] at v3
      refine OK_jlx (fun x39 ex39 => ?_)
      try simp (disch := omega) only [jst_eq, jst_ne, jst_ni, jI_i, jcmp_lt, jcmp_gt, w32_id, jcpy_out, Sum.elim_inl, Sum.elim_inr, jt2, jt3, jt4, jt5, jt6, jt7, jt8] at ex39
      refine OK_jb (vX14_stepB (c := c) (p := nb (uL (h p1 i1)) a7.toNat) (q := nb (uL (h p2 i1)) a7.toNat) _ _ _ (by exact ⟨⟨hi.2.2.1, hi.2.2.2⟩, ⟨v1, nb_lt _ _⟩, v2, nb_lt _ _⟩)) (fun v41 r4 => ?_)
      try dsimp only [Sum.elim_inl, Sum.elim_inr, jt2, jt3, jt4, jt5, jt6, jt7, jt8] at r4
      have v4 := r4
      clear r4
      try simp (disch := omega) only [jst_eq, jst_ne, jst_ni, jI_i, jcmp_lt, jcmp_gt, w32_id, jcpy_out, Sum.elim_inl, Sum.elim_inr, jt2, jt3, jt4, jt5, jt6, jt7, jt8] at v4
      refine OK_jlx (fun x42 ex42 => ?_)
      try simp (disch := omega) only [jst_eq, jst_ne, jst_ni, jI_i, jcmp_lt, jcmp_gt, w32_id, jcpy_out, Sum.elim_inl, Sum.elim_inr, jt2, jt3, jt4, jt5, jt6, jt7, jt8] at ex42
      refine OK_jlx (fun x43 ex43 => ?_)
      try simp (disch := omega) only [jst_eq, jst_ne, jst_ni, jI_i, jcmp_lt, jcmp_gt, w32_id, jcpy_out, Sum.elim_inl, Sum.elim_inr, jt2, jt3, jt4, jt5, jt6, jt7, jt8] at ex43
      refine OK_il ?_ ?_
      · try dsimp only [Sum.elim_inl, Sum.elim_inr, jt2, jt3, jt4, jt5, jt6, jt7, jt8]
        refine ⟨?_, ?_, ?_⟩
        · (first | assumption | omega | ((try dsimp only [jt2, jt3, jt4]); first | omega | (simp (disch := omega) only [jst_eq, jst_ne, jst_ni, jst_o, jI_i, jcpy_out, w32_id, jdiv_nn, jshr_k, jand_255] <;> first | done | omega | assumption)) | (intros; simp (disch := omega) only [jst_eq, jst_ne, jst_ni, jst_o, jI_i, jcpy_out, w32_id, jdiv_nn, *] <;> first | done | omega) | (intros; simp (disch := omega) only [jst_eq, jst_ne, jst_ni, jst_o, jI_i, jcpy_out, w32_id, jdiv_nn] at * <;> first | done | omega | assumption) | (intros; first | rfl | (exfalso; omega) | ((repeat' apply And.intro) <;> first | assumption | rfl | omega | trivial))) -- o10 e2i.1
        · (rw [ex39, v3, show 4 * a7 = ((4 * a7.toNat : Nat) : Int) by omega, show x43.toNat = a7.toNat + 1 by omega]; exact ⟨jorL_r _ _, orS (f := fun j => qA c (nb (uL (h p1 i1)) j) (nb (uL (h p2 i1)) j)) (by omega) (fun j l => (qA_b c hi.2.2.2 _ (nb_lt _ _) _ (nb_lt _ _)).1) q1.2⟩) -- o11 e2i.2
        · (rw [ex42, v4, show 4 * a7 = ((4 * a7.toNat : Nat) : Int) by omega, show x43.toNat = a7.toNat + 1 by omega]; exact ⟨jorL_r _ _, orS (f := fun j => qB c (nb (uL (h p1 i1)) j) (nb (uL (h p2 i1)) j)) (by omega) (fun j l => (qA_b c hi.2.2.2 _ (nb_lt _ _) _ (nb_lt _ _)).2) q2.2⟩) -- o12 e2i.3
      · (first | assumption | omega | ((try dsimp only [jt2, jt3, jt4]); first | omega | (simp (disch := omega) only [jst_eq, jst_ne, jst_ni, jst_o, jI_i, jcpy_out, w32_id, jdiv_nn, jshr_k, jand_255] <;> first | done | omega | assumption)) | (intros; simp (disch := omega) only [jst_eq, jst_ne, jst_ni, jst_o, jI_i, jcpy_out, w32_id, jdiv_nn, *] <;> first | done | omega) | (intros; simp (disch := omega) only [jst_eq, jst_ne, jst_ni, jst_o, jI_i, jcpy_out, w32_id, jdiv_nn] at * <;> first | done | omega | assumption) | (intros; first | rfl | (exfalso; omega) | ((repeat' apply And.intro) <;> first | assumption | rfl | omega | trivial))) -- o13 e2m
  · try dsimp only [Sum.elim_inl, Sum.elim_inr, jt2, jt3, jt4, jt5, jt6, jt7, jt8]
    refine ⟨?_, ?_, ?_⟩
    · (first | assumption | omega | ((try dsimp only [jt2, jt3, jt4]); first | omega | (simp (disch := omega) only [jst_eq, jst_ne, jst_ni, jst_o, jI_i, jcpy_out, w32_id, jdiv_nn, jshr_k, jand_255] <;> first | done | omega | assumption)) | (intros; simp (disch := omega) only [jst_eq, jst_ne, jst_ni, jst_o, jI_i, jcpy_out, w32_id, jdiv_nn, *] <;> first | done | omega) | (intros; simp (disch := omega) only [jst_eq, jst_ne, jst_ni, jst_o, jI_i, jcpy_out, w32_id, jdiv_nn] at * <;> first | done | omega | assumption) | (intros; first | rfl | (exfalso; omega) | ((repeat' apply And.intro) <;> first | assumption | rfl | omega | trivial))) -- o14 init.1
    · (rw [h0.1, h0.2.2]; exact ⟨runL_r 0 0 |>.2, orS0 _⟩) -- o15 init.2
    · (rw [h0.2.1, h0.2.2]; exact ⟨runL_r 0 0 |>.2, orS0 _⟩) -- o16 init.3
theorem vX14_findLevel_l107 (i1 : Int) (a20 : Int) {h0 : AH} {p1 p2 p3 p4 p8 : Int} {L : Nat} (hl : LVI h0 p1 p2 p3 p4 p8 L i1 0) (hi : i1 < h0 871 L) (h2 : a20 = 0) : OK (gX14_findLevel_l107 i1 a20 h0) (fun h' => (LVI h' p1 p2 p3 p4 p8 L i1 18) ∧ (frB p1 p2 p3 p4 p8 h0 h')) := by
  unfold gX14_findLevel_l107
  refine OK_jit (I := (fun (s : Int × AH) => jt2 s fun a2 h => (0 ≤ a2 ∧ a2 ≤ 18) ∧ (LVI h p1 p2 p3 p4 p8 L i1 a2) ∧ (frB p1 p2 p3 p4 p8 h0 h))) (m := (fun (s : Int × AH) => jt2 s fun a2 h => (18 - a2).toNat)) ?_ ?_
  · intro s hs
    obtain ⟨a2, h⟩ := s
    dsimp only [Sum.elim_inl, Sum.elim_inr, jt2, jt3, jt4, jt5, jt6, jt7, jt8] at hs
    obtain ⟨q0, q1, fr⟩ := hs
    unfold gX14_findLevel_b107
    refine OK_jt2 ?_
    have tz := hl.1.2.2
    have i871 : i1 < h 871 L := by rw [fr 871 _ (by omega) (by omega)]; exact hi
    have R := LVI_r q1 i871
    refine OK_if (fun c1 => ?_) (fun c1 => ?_)
    · skip
      try simp (disch := omega) only [jst_eq, jst_ne, jst_ni, jI_i, jcmp_lt, jcmp_gt, w32_id, jcpy_out, Sum.elim_inl, Sum.elim_inr, jt2, jt3, jt4, jt5, jt6, jt7, jt8] at c1
      refine OK_ir ?_
      try dsimp only [Sum.elim_inl, Sum.elim_inr, jt2, jt3, jt4, jt5, jt6, jt7, jt8]
      refine ⟨?_, ?_⟩
      · (rw [show (18 : Int) = a2 by omega]; exact q1) -- o1 e1.1
      · (first | assumption | omega | ((try dsimp only [jt2, jt3, jt4]); first | omega | (simp (disch := omega) only [jst_eq, jst_ne, jst_ni, jst_o, jI_i, jcpy_out, w32_id, jdiv_nn, jshr_k, jand_255] <;> first | done | omega | assumption)) | (intros; simp (disch := omega) only [jst_eq, jst_ne, jst_ni, jst_o, jI_i, jcpy_out, w32_id, jdiv_nn, *] <;> first | done | omega) | (intros; simp (disch := omega) only [jst_eq, jst_ne, jst_ni, jst_o, jI_i, jcpy_out, w32_id, jdiv_nn] at * <;> first | done | omega | assumption) | (intros; first | rfl | (exfalso; omega) | ((repeat' apply And.intro) <;> first | assumption | rfl | omega | trivial))) -- o2 e1.2
    · skip
      try simp (disch := omega) only [jst_eq, jst_ne, jst_ni, jI_i, jcmp_lt, jcmp_gt, w32_id, jcpy_out, Sum.elim_inl, Sum.elim_inr, jt2, jt3, jt4, jt5, jt6, jt7, jt8] at c1
      refine OK_jb (vX14_findLevel_l121 (p1 := p1) (p2 := p2) (p3 := p3) (p4 := p4) (p8 := p8) (c := a2.toNat) _ _ _ _ _ (by exact q1.1) (by exact ⟨R.2.1.1, R.2.1.2, by omega, by omega⟩) (by exact R.1) (by (first | assumption | omega | ((try dsimp only [jt2, jt3, jt4]); first | omega | (simp (disch := omega) only [jst_eq, jst_ne, jst_ni, jst_o, jI_i, jcpy_out, w32_id, jdiv_nn, jshr_k, jand_255] <;> first | done | omega | assumption)) | (intros; simp (disch := omega) only [jst_eq, jst_ne, jst_ni, jst_o, jI_i, jcpy_out, w32_id, jdiv_nn, *] <;> first | done | omega) | (intros; simp (disch := omega) only [jst_eq, jst_ne, jst_ni, jst_o, jI_i, jcpy_out, w32_id, jdiv_nn] at * <;> first | done | omega | assumption) | (intros; first | rfl | (exfalso; omega) | ((repeat' apply And.intro) <;> first | assumption | rfl | omega | trivial))))) (fun o25 r1 => ?_)
      obtain ⟨y27, y28⟩ := o25
      refine OK_jt2 ?_
      try dsimp only [Sum.elim_inl, Sum.elim_inr, jt2, jt3, jt4, jt5, jt6, jt7, jt8] at r1
      have v1 := r1
      clear r1
      try simp (disch := omega) only [jst_eq, jst_ne, jst_ni, jI_i, jcmp_lt, jcmp_gt, w32_id, jcpy_out, Sum.elim_inl, Sum.elim_inr, jt2, jt3, jt4, jt5, jt6, jt7, jt8] at v1
      refine OK_jb (vX14_addState (p1 := p1) (p2 := p2) (p3 := p3) (p4 := p4) (p8 := p8) (N := h 454 145) _ _ _ _ (by exact q1.1) (by (obtain ⟨_, _, cd, N, pt, hN, _⟩ := q1; rw [hN]; exact pt)) (by exact ⟨rfl, R.2.2⟩) (by (first | assumption | omega | ((try dsimp only [jt2, jt3, jt4]); first | omega | (simp (disch := omega) only [jst_eq, jst_ne, jst_ni, jst_o, jI_i, jcpy_out, w32_id, jdiv_nn, jshr_k, jand_255] <;> first | done | omega | assumption)) | (intros; simp (disch := omega) only [jst_eq, jst_ne, jst_ni, jst_o, jI_i, jcpy_out, w32_id, jdiv_nn, *] <;> first | done | omega) | (intros; simp (disch := omega) only [jst_eq, jst_ne, jst_ni, jst_o, jI_i, jcpy_out, w32_id, jdiv_nn] at * <;> first | done | omega | assumption) | (intros; first | rfl | (exfalso; omega) | ((repeat' apply And.intro) <;> first | assumption | rfl | omega | trivial))))) (fun h30 r2 => ?_)
      try dsimp only [Sum.elim_inl, Sum.elim_inr, jt2, jt3, jt4, jt5, jt6, jt7, jt8] at r2
      have c2 := r2
      clear r2
      try simp (disch := omega) only [jst_eq, jst_ne, jst_ni, jI_i, jcmp_lt, jcmp_gt, w32_id, jcpy_out, Sum.elim_inl, Sum.elim_inr, jt2, jt3, jt4, jt5, jt6, jt7, jt8] at c2
      obtain ⟨S1, S2⟩ := LVI_s q1 i871 (by omega) c2 (by rw [v1.1, v1.2]; rfl)
      refine OK_jlx (fun x31 ex31 => ?_)
      try simp (disch := omega) only [jst_eq, jst_ne, jst_ni, jI_i, jcmp_lt, jcmp_gt, w32_id, jcpy_out, Sum.elim_inl, Sum.elim_inr, jt2, jt3, jt4, jt5, jt6, jt7, jt8] at ex31
      refine OK_il ?_ ?_
      · try dsimp only [Sum.elim_inl, Sum.elim_inr, jt2, jt3, jt4, jt5, jt6, jt7, jt8]
        refine ⟨?_, ?_, ?_⟩
        · (first | assumption | omega | ((try dsimp only [jt2, jt3, jt4]); first | omega | (simp (disch := omega) only [jst_eq, jst_ne, jst_ni, jst_o, jI_i, jcpy_out, w32_id, jdiv_nn, jshr_k, jand_255] <;> first | done | omega | assumption)) | (intros; simp (disch := omega) only [jst_eq, jst_ne, jst_ni, jst_o, jI_i, jcpy_out, w32_id, jdiv_nn, *] <;> first | done | omega) | (intros; simp (disch := omega) only [jst_eq, jst_ne, jst_ni, jst_o, jI_i, jcpy_out, w32_id, jdiv_nn] at * <;> first | done | omega | assumption) | (intros; first | rfl | (exfalso; omega) | ((repeat' apply And.intro) <;> first | assumption | rfl | omega | trivial))) -- o11 e2i.1
        · (rw [ex31]; exact S1) -- o12 e2i.2
        · exact fun a s y1 y2 => by rw [S2 a s y1 y2]; exact fr a s y1 y2 -- o13 e2i.3
      · (first | assumption | omega | ((try dsimp only [jt2, jt3, jt4]); first | omega | (simp (disch := omega) only [jst_eq, jst_ne, jst_ni, jst_o, jI_i, jcpy_out, w32_id, jdiv_nn, jshr_k, jand_255] <;> first | done | omega | assumption)) | (intros; simp (disch := omega) only [jst_eq, jst_ne, jst_ni, jst_o, jI_i, jcpy_out, w32_id, jdiv_nn, *] <;> first | done | omega) | (intros; simp (disch := omega) only [jst_eq, jst_ne, jst_ni, jst_o, jI_i, jcpy_out, w32_id, jdiv_nn] at * <;> first | done | omega | assumption) | (intros; first | rfl | (exfalso; omega) | ((repeat' apply And.intro) <;> first | assumption | rfl | omega | trivial))) -- o14 e2m
  · try dsimp only [Sum.elim_inl, Sum.elim_inr, jt2, jt3, jt4, jt5, jt6, jt7, jt8]
    refine ⟨?_, ?_, ?_⟩
    · (first | assumption | omega | ((try dsimp only [jt2, jt3, jt4]); first | omega | (simp (disch := omega) only [jst_eq, jst_ne, jst_ni, jst_o, jI_i, jcpy_out, w32_id, jdiv_nn, jshr_k, jand_255] <;> first | done | omega | assumption)) | (intros; simp (disch := omega) only [jst_eq, jst_ne, jst_ni, jst_o, jI_i, jcpy_out, w32_id, jdiv_nn, *] <;> first | done | omega) | (intros; simp (disch := omega) only [jst_eq, jst_ne, jst_ni, jst_o, jI_i, jcpy_out, w32_id, jdiv_nn] at * <;> first | done | omega | assumption) | (intros; first | rfl | (exfalso; omega) | ((repeat' apply And.intro) <;> first | assumption | rfl | omega | trivial))) -- o15 init.1
    · (rw [h2]; exact hl) -- o16 init.2
    · exact fun _ _ _ _ => rfl -- o17 init.3
theorem LVI_k {h : AH} {p1 p2 p3 p4 p8 : Int} {L : Nat} {k : Int} (w : LVI h p1 p2 p3 p4 p8 L k 18) (kl : k < h 871 L) : LVI h p1 p2 p3 p4 p8 L (k + 1) 0 := by
  obtain ⟨t, l, cd, N, pt, hN, pl⟩ := w
  exact ⟨t, l, cd, N, pt, hN, PLv_k pl kl⟩
theorem vX14_findLevel_l85 (a10 : Int) {h0 : AH} {p1 p2 p3 p4 p8 : Int} {L : Nat} (hl : LVI h0 p1 p2 p3 p4 p8 L a10 0) : OK (gX14_findLevel_l85 a10 h0) (fun h' => (LVI h' p1 p2 p3 p4 p8 L (h' 871 L) 0) ∧ (frB p1 p2 p3 p4 p8 h0 h')) := by
  unfold gX14_findLevel_l85
  refine OK_jit (I := (fun (s : Int × AH) => jt2 s fun a1 h => (LVI h p1 p2 p3 p4 p8 L a1 0) ∧ (frB p1 p2 p3 p4 p8 h0 h))) (m := (fun (s : Int × AH) => jt2 s fun a1 h => (h0 871 L - a1).toNat)) ?_ ?_
  · intro s hs
    obtain ⟨a1, h⟩ := s
    dsimp only [Sum.elim_inl, Sum.elim_inr, jt2, jt3, jt4, jt5, jt6, jt7, jt8] at hs
    obtain ⟨q1, fr⟩ := hs
    unfold gX14_findLevel_b85
    refine OK_jt2 ?_
    have tz := hl.1.2.2
    have i871 : h 871 L = h0 871 L := fr 871 _ (by omega) (by omega)
    have hL := q1.2.1
    have e146 := hL.1
    obtain ⟨_, _, cd, N, pt, hN, pl⟩ := id q1
    have kb := pl.2.2.2.1
    refine OK_if (fun c1 => ?_) (fun c1 => ?_)
    · skip
      try simp (disch := omega) only [jst_eq, jst_ne, jst_ni, jI_i, jcmp_lt, jcmp_gt, w32_id, jcpy_out, Sum.elim_inl, Sum.elim_inr, jt2, jt3, jt4, jt5, jt6, jt7, jt8] at c1
      refine OK_ir ?_
      try dsimp only [Sum.elim_inl, Sum.elim_inr, jt2, jt3, jt4, jt5, jt6, jt7, jt8]
      refine ⟨?_, ?_⟩
      · (exfalso; omega) -- o1 e1.1
      · (first | assumption | omega | ((try dsimp only [jt2, jt3, jt4]); first | omega | (simp (disch := omega) only [jst_eq, jst_ne, jst_ni, jst_o, jI_i, jcpy_out, w32_id, jdiv_nn, jshr_k, jand_255] <;> first | done | omega | assumption)) | (intros; simp (disch := omega) only [jst_eq, jst_ne, jst_ni, jst_o, jI_i, jcpy_out, w32_id, jdiv_nn, *] <;> first | done | omega) | (intros; simp (disch := omega) only [jst_eq, jst_ne, jst_ni, jst_o, jI_i, jcpy_out, w32_id, jdiv_nn] at * <;> first | done | omega | assumption) | (intros; first | rfl | (exfalso; omega) | ((repeat' apply And.intro) <;> first | assumption | rfl | omega | trivial))) -- o2 e1.2
    · skip
      try simp (disch := omega) only [jst_eq, jst_ne, jst_ni, jI_i, jcmp_lt, jcmp_gt, w32_id, jcpy_out, Sum.elim_inl, Sum.elim_inr, jt2, jt3, jt4, jt5, jt6, jt7, jt8] at c1
      refine OK_jg (by (first | assumption | omega | ((try dsimp only [jt2, jt3, jt4]); first | omega | (simp (disch := omega) only [jst_eq, jst_ne, jst_ni, jst_o, jI_i, jcpy_out, w32_id, jdiv_nn, jshr_k, jand_255] <;> first | done | omega | assumption)) | (intros; simp (disch := omega) only [jst_eq, jst_ne, jst_ni, jst_o, jI_i, jcpy_out, w32_id, jdiv_nn, *] <;> first | done | omega) | (intros; simp (disch := omega) only [jst_eq, jst_ne, jst_ni, jst_o, jI_i, jcpy_out, w32_id, jdiv_nn] at * <;> first | done | omega | assumption) | (intros; first | rfl | (exfalso; omega) | ((repeat' apply And.intro) <;> first | assumption | rfl | omega | trivial)))) ?_ -- o3
      refine OK_if (fun c2 => ?_) (fun c2 => ?_)
      · skip
        try simp (disch := omega) only [jst_eq, jst_ne, jst_ni, jI_i, jcmp_lt, jcmp_gt, w32_id, jcpy_out, Sum.elim_inl, Sum.elim_inr, jt2, jt3, jt4, jt5, jt6, jt7, jt8] at c2
        rw [e146] at c2
        refine OK_ir ?_
        try dsimp only [Sum.elim_inl, Sum.elim_inr, jt2, jt3, jt4, jt5, jt6, jt7, jt8]
        refine ⟨?_, ?_⟩
        · (rw [show h 871 L = a1 by omega]; exact q1) -- o4 e2.1
        · (first | assumption | omega | ((try dsimp only [jt2, jt3, jt4]); first | omega | (simp (disch := omega) only [jst_eq, jst_ne, jst_ni, jst_o, jI_i, jcpy_out, w32_id, jdiv_nn, jshr_k, jand_255] <;> first | done | omega | assumption)) | (intros; simp (disch := omega) only [jst_eq, jst_ne, jst_ni, jst_o, jI_i, jcpy_out, w32_id, jdiv_nn, *] <;> first | done | omega) | (intros; simp (disch := omega) only [jst_eq, jst_ne, jst_ni, jst_o, jI_i, jcpy_out, w32_id, jdiv_nn] at * <;> first | done | omega | assumption) | (intros; first | rfl | (exfalso; omega) | ((repeat' apply And.intro) <;> first | assumption | rfl | omega | trivial))) -- o5 e2.2
      · skip
        try simp (disch := omega) only [jst_eq, jst_ne, jst_ni, jI_i, jcmp_lt, jcmp_gt, w32_id, jcpy_out, Sum.elim_inl, Sum.elim_inr, jt2, jt3, jt4, jt5, jt6, jt7, jt8] at c2
        rw [e146] at c2
        have R9 := (LVI_r q1 (by omega)).2.1
        refine OK_jb (vX14_findLevel_l107 (p1 := p1) (p2 := p2) (p3 := p3) (p4 := p4) (p8 := p8) (L := L) _ _ (by exact q1) (by omega) (by (first | assumption | omega | ((try dsimp only [jt2, jt3, jt4]); first | omega | (simp (disch := omega) only [jst_eq, jst_ne, jst_ni, jst_o, jI_i, jcpy_out, w32_id, jdiv_nn, jshr_k, jand_255] <;> first | done | omega | assumption)) | (intros; simp (disch := omega) only [jst_eq, jst_ne, jst_ni, jst_o, jI_i, jcpy_out, w32_id, jdiv_nn, *] <;> first | done | omega) | (intros; simp (disch := omega) only [jst_eq, jst_ne, jst_ni, jst_o, jI_i, jcpy_out, w32_id, jdiv_nn] at * <;> first | done | omega | assumption) | (intros; first | rfl | (exfalso; omega) | ((repeat' apply And.intro) <;> first | assumption | rfl | omega | trivial))))) (fun o21 r1 => ?_)
        try dsimp only [Sum.elim_inl, Sum.elim_inr, jt2, jt3, jt4, jt5, jt6, jt7, jt8] at r1
        obtain ⟨l1, fr1⟩ := r1
        try simp (disch := omega) only [jst_eq, jst_ne, jst_ni, jI_i, jcmp_lt, jcmp_gt, w32_id, jcpy_out, Sum.elim_inl, Sum.elim_inr, jt2, jt3, jt4, jt5, jt6, jt7, jt8] at l1
        try simp (disch := omega) only [jst_eq, jst_ne, jst_ni, jI_i, jcmp_lt, jcmp_gt, w32_id, jcpy_out, Sum.elim_inl, Sum.elim_inr, jt2, jt3, jt4, jt5, jt6, jt7, jt8] at fr1
        refine OK_jlx (fun x23 ex23 => ?_)
        try simp (disch := omega) only [jst_eq, jst_ne, jst_ni, jI_i, jcmp_lt, jcmp_gt, w32_id, jcpy_out, Sum.elim_inl, Sum.elim_inr, jt2, jt3, jt4, jt5, jt6, jt7, jt8] at ex23
        refine OK_il ?_ ?_
        · try dsimp only [Sum.elim_inl, Sum.elim_inr, jt2, jt3, jt4, jt5, jt6, jt7, jt8]
          refine ⟨?_, ?_⟩
          · (rw [ex23]; exact LVI_k l1 (by rw [fr1 871 _ (by omega) (by omega)]; omega)) -- o9 e3i.1
          · exact fun a s y1 y2 => by rw [fr1 a s y1 y2]; exact fr a s y1 y2 -- o10 e3i.2
        · (first | assumption | omega | ((try dsimp only [jt2, jt3, jt4]); first | omega | (simp (disch := omega) only [jst_eq, jst_ne, jst_ni, jst_o, jI_i, jcpy_out, w32_id, jdiv_nn, jshr_k, jand_255] <;> first | done | omega | assumption)) | (intros; simp (disch := omega) only [jst_eq, jst_ne, jst_ni, jst_o, jI_i, jcpy_out, w32_id, jdiv_nn, *] <;> first | done | omega) | (intros; simp (disch := omega) only [jst_eq, jst_ne, jst_ni, jst_o, jI_i, jcpy_out, w32_id, jdiv_nn] at * <;> first | done | omega | assumption) | (intros; first | rfl | (exfalso; omega) | ((repeat' apply And.intro) <;> first | assumption | rfl | omega | trivial))) -- o11 e3m
  · try dsimp only [Sum.elim_inl, Sum.elim_inr, jt2, jt3, jt4, jt5, jt6, jt7, jt8]
    refine ⟨?_, ?_⟩
    · (first | assumption | omega | ((try dsimp only [jt2, jt3, jt4]); first | omega | (simp (disch := omega) only [jst_eq, jst_ne, jst_ni, jst_o, jI_i, jcpy_out, w32_id, jdiv_nn, jshr_k, jand_255] <;> first | done | omega | assumption)) | (intros; simp (disch := omega) only [jst_eq, jst_ne, jst_ni, jst_o, jI_i, jcpy_out, w32_id, jdiv_nn, *] <;> first | done | omega) | (intros; simp (disch := omega) only [jst_eq, jst_ne, jst_ni, jst_o, jI_i, jcpy_out, w32_id, jdiv_nn] at * <;> first | done | omega | assumption) | (intros; first | rfl | (exfalso; omega) | ((repeat' apply And.intro) <;> first | assumption | rfl | omega | trivial))) -- o12 init.1
    · exact fun _ _ _ _ => rfl -- o13 init.2

