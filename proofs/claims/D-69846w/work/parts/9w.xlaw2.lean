/-! x: a law is read -/
theorem vX13_wantB (a1 : Int) {h : AH} {B : Int → Int} {n A c : Int} {r : Int ⊕ Int} (t : TX B n A h) (hB : ∀ i, 0 ≤ i → i < n → 0 ≤ B i ∧ B i < 256) (s : Sx B n r h) (wc : (a1 = 62 ∧ c = 256) ∨ (sgn a1 ∧ c = a1)) : OK (gX13_want a1 h) (fun h' => (Sx B n (bnd r (pW B n c)) h') ∧ (∀ a s, ¬ (a = 441 ∧ 2 ≤ s ∧ s ≤ 7) → h' a s = h a s) ∧ ((∃ z, r = .inl z) → h' 441 6 = 1)) := by
  unfold gX13_want
  refine OK_if (fun c1 => ?_) (fun c1 => ?_)
  · skip
    try simp (disch := omega) only [jst_eq, jst_ne, jst_ni, jI_i, jcmp_lt, jcmp_gt, w32_id, jcpy_out, Sum.elim_inl, Sum.elim_inr, jt2, jt3, jt4, jt5, jt6, jt7, jt8] at c1
    obtain ⟨q, nb, k⟩ := Sx_nb s c1
    have O := chX_1 (tok_o B n q)
    rw [← nb.2.1.2.1] at O
    refine OK_if (fun c2 => ?_) (fun c2 => ?_)
    · skip
      try simp (disch := omega) only [jst_eq, jst_ne, jst_ni, jI_i, jcmp_lt, jcmp_gt, w32_id, jcpy_out, Sum.elim_inl, Sum.elim_inr, jt2, jt3, jt4, jt5, jt6, jt7, jt8] at c2
      have g : tO B n q = 4 ∧ tV B n q = c := by { rcases wc with y | y; { rw [y.2]; exact O.2.2.2.2.2.2.mp (by omega) }; { rw [y.2]; exact (O.2.2.2.2.2.1 a1 y.1).mp c2 } }
      have k2 := k.resolve_left (fun z => by omega)
      refine OK_jb (vX13_nextS (B := B) (n := n) (A := A) (q := q) (by (first | assumption | omega | ((try dsimp only [jt2, jt3, jt4]); first | omega | (simp (disch := omega) only [jst_eq, jst_ne, jst_ni, jst_o, jI_i, jcpy_out, w32_id, jdiv_nn, jshr_k, jand_255] <;> first | done | omega | assumption)) | (intros; simp (disch := omega) only [jst_eq, jst_ne, jst_ni, jst_o, jI_i, jcpy_out, w32_id, jdiv_nn, *] <;> first | done | omega) | (intros; simp (disch := omega) only [jst_eq, jst_ne, jst_ni, jst_o, jI_i, jcpy_out, w32_id, jdiv_nn] at * <;> first | done | omega | assumption) | (intros; first | rfl | (exfalso; omega) | ((repeat' apply And.intro) <;> first | assumption | rfl | omega | trivial)))) (by (first | assumption | omega | ((try dsimp only [jt2, jt3, jt4]); first | omega | (simp (disch := omega) only [jst_eq, jst_ne, jst_ni, jst_o, jI_i, jcpy_out, w32_id, jdiv_nn, jshr_k, jand_255] <;> first | done | omega | assumption)) | (intros; simp (disch := omega) only [jst_eq, jst_ne, jst_ni, jst_o, jI_i, jcpy_out, w32_id, jdiv_nn, *] <;> first | done | omega) | (intros; simp (disch := omega) only [jst_eq, jst_ne, jst_ni, jst_o, jI_i, jcpy_out, w32_id, jdiv_nn] at * <;> first | done | omega | assumption) | (intros; first | rfl | (exfalso; omega) | ((repeat' apply And.intro) <;> first | assumption | rfl | omega | trivial)))) (by (first | assumption | omega | ((try dsimp only [jt2, jt3, jt4]); first | omega | (simp (disch := omega) only [jst_eq, jst_ne, jst_ni, jst_o, jI_i, jcpy_out, w32_id, jdiv_nn, jshr_k, jand_255] <;> first | done | omega | assumption)) | (intros; simp (disch := omega) only [jst_eq, jst_ne, jst_ni, jst_o, jI_i, jcpy_out, w32_id, jdiv_nn, *] <;> first | done | omega) | (intros; simp (disch := omega) only [jst_eq, jst_ne, jst_ni, jst_o, jI_i, jcpy_out, w32_id, jdiv_nn] at * <;> first | done | omega | assumption) | (intros; first | rfl | (exfalso; omega) | ((repeat' apply And.intro) <;> first | assumption | rfl | omega | trivial)))) (by exact k2.2)) (fun h4 r1 => ?_)
      try dsimp only [Sum.elim_inl, Sum.elim_inr, jt2, jt3, jt4, jt5, jt6, jt7, jt8] at r1
      obtain ⟨sx1, fr1⟩ := r1
      try simp (disch := omega) only [jst_eq, jst_ne, jst_ni, jI_i, jcmp_lt, jcmp_gt, w32_id, jcpy_out, Sum.elim_inl, Sum.elim_inr, jt2, jt3, jt4, jt5, jt6, jt7, jt8] at sx1
      try simp (disch := omega) only [jst_eq, jst_ne, jst_ni, jI_i, jcmp_lt, jcmp_gt, w32_id, jcpy_out, Sum.elim_inl, Sum.elim_inr, jt2, jt3, jt4, jt5, jt6, jt7, jt8] at fr1
      refine OK_some ?_
      try dsimp only [Sum.elim_inl, Sum.elim_inr, jt2, jt3, jt4, jt5, jt6, jt7, jt8]
      try dsimp only [Sum.elim_inl, Sum.elim_inr, jt2, jt3, jt4, jt5, jt6, jt7, jt8]
      refine ⟨?_, ?_, ?_⟩
      · (rw [k2.1]; show Sx B n (pW B n c q) _; unfold pW; rw [if_pos g]; exact sx1) -- o5 e1.1
      · (first | assumption | omega | ((try dsimp only [jt2, jt3, jt4]); first | omega | (simp (disch := omega) only [jst_eq, jst_ne, jst_ni, jst_o, jI_i, jcpy_out, w32_id, jdiv_nn, jshr_k, jand_255] <;> first | done | omega | assumption)) | (intros; simp (disch := omega) only [jst_eq, jst_ne, jst_ni, jst_o, jI_i, jcpy_out, w32_id, jdiv_nn, *] <;> first | done | omega) | (intros; simp (disch := omega) only [jst_eq, jst_ne, jst_ni, jst_o, jI_i, jcpy_out, w32_id, jdiv_nn] at * <;> first | done | omega | assumption) | (intros; first | rfl | (exfalso; omega) | ((repeat' apply And.intro) <;> first | assumption | rfl | omega | trivial))) -- o6 e1.2
      · exact fun ⟨z, e⟩ => by (rw [k2.1] at e; cases e) -- o7 e1.3
    · skip
      try simp (disch := omega) only [jst_eq, jst_ne, jst_ni, jI_i, jcmp_lt, jcmp_gt, w32_id, jcpy_out, Sum.elim_inl, Sum.elim_inr, jt2, jt3, jt4, jt5, jt6, jt7, jt8] at c2
      have g : ¬ (tO B n q = 4 ∧ tV B n q = c) := by { rcases wc with y | y; { rw [y.2]; intro z; have := O.2.2.2.2.2.2.mpr z; omega }; { rw [y.2]; intro z; exact c2 ((O.2.2.2.2.2.1 a1 y.1).mpr z) } }
      refine OK_jb (vX13_no (B := B) (n := n) (r := r) (by (first | assumption | omega | ((try dsimp only [jt2, jt3, jt4]); first | omega | (simp (disch := omega) only [jst_eq, jst_ne, jst_ni, jst_o, jI_i, jcpy_out, w32_id, jdiv_nn, jshr_k, jand_255] <;> first | done | omega | assumption)) | (intros; simp (disch := omega) only [jst_eq, jst_ne, jst_ni, jst_o, jI_i, jcpy_out, w32_id, jdiv_nn, *] <;> first | done | omega) | (intros; simp (disch := omega) only [jst_eq, jst_ne, jst_ni, jst_o, jI_i, jcpy_out, w32_id, jdiv_nn] at * <;> first | done | omega | assumption) | (intros; first | rfl | (exfalso; omega) | ((repeat' apply And.intro) <;> first | assumption | rfl | omega | trivial))))) (fun h6 r2 => ?_)
      try dsimp only [Sum.elim_inl, Sum.elim_inr, jt2, jt3, jt4, jt5, jt6, jt7, jt8] at r2
      obtain ⟨nb2, fr2⟩ := r2
      try simp (disch := omega) only [jst_eq, jst_ne, jst_ni, jI_i, jcmp_lt, jcmp_gt, w32_id, jcpy_out, Sum.elim_inl, Sum.elim_inr, jt2, jt3, jt4, jt5, jt6, jt7, jt8] at nb2
      try simp (disch := omega) only [jst_eq, jst_ne, jst_ni, jI_i, jcmp_lt, jcmp_gt, w32_id, jcpy_out, Sum.elim_inl, Sum.elim_inr, jt2, jt3, jt4, jt5, jt6, jt7, jt8] at fr2
      refine OK_some ?_
      try dsimp only [Sum.elim_inl, Sum.elim_inr, jt2, jt3, jt4, jt5, jt6, jt7, jt8]
      try dsimp only [Sum.elim_inl, Sum.elim_inr, jt2, jt3, jt4, jt5, jt6, jt7, jt8]
      refine ⟨?_, ?_, ?_⟩
      · (rcases k with k | k <;> rw [k.1] at nb2 ⊢; { exact Sx_l nb2.1 nb2.2 }; { show Sx B n (pW B n c q) _; unfold pW; rw [if_neg g]; exact Sx_l nb2.1 nb2.2 }) -- o9 e2.1
      · (first | assumption | omega | ((try dsimp only [jt2, jt3, jt4]); first | omega | (simp (disch := omega) only [jst_eq, jst_ne, jst_ni, jst_o, jI_i, jcpy_out, w32_id, jdiv_nn, jshr_k, jand_255] <;> first | done | omega | assumption)) | (intros; simp (disch := omega) only [jst_eq, jst_ne, jst_ni, jst_o, jI_i, jcpy_out, w32_id, jdiv_nn, *] <;> first | done | omega) | (intros; simp (disch := omega) only [jst_eq, jst_ne, jst_ni, jst_o, jI_i, jcpy_out, w32_id, jdiv_nn] at * <;> first | done | omega | assumption) | (intros; first | rfl | (exfalso; omega) | ((repeat' apply And.intro) <;> first | assumption | rfl | omega | trivial))) -- o10 e2.2
      · exact fun _ => nb2.1 -- o11 e2.3
  · skip
    try simp (disch := omega) only [jst_eq, jst_ne, jst_ni, jI_i, jcmp_lt, jcmp_gt, w32_id, jcpy_out, Sum.elim_inl, Sum.elim_inr, jt2, jt3, jt4, jt5, jt6, jt7, jt8] at c1
    refine OK_some ?_
    try dsimp only [Sum.elim_inl, Sum.elim_inr, jt2, jt3, jt4, jt5, jt6, jt7, jt8]
    try dsimp only [Sum.elim_inl, Sum.elim_inr, jt2, jt3, jt4, jt5, jt6, jt7, jt8]
    refine ⟨?_, ?_, ?_⟩
    · (obtain ⟨_, e⟩ := Sx_br s c1; rw [e] at s ⊢; exact s) -- o12 e3.1
    · (first | assumption | omega | ((try dsimp only [jt2, jt3, jt4]); first | omega | (simp (disch := omega) only [jst_eq, jst_ne, jst_ni, jst_o, jI_i, jcpy_out, w32_id, jdiv_nn, jshr_k, jand_255] <;> first | done | omega | assumption)) | (intros; simp (disch := omega) only [jst_eq, jst_ne, jst_ni, jst_o, jI_i, jcpy_out, w32_id, jdiv_nn, *] <;> first | done | omega) | (intros; simp (disch := omega) only [jst_eq, jst_ne, jst_ni, jst_o, jI_i, jcpy_out, w32_id, jdiv_nn] at * <;> first | done | omega | assumption) | (intros; first | rfl | (exfalso; omega) | ((repeat' apply And.intro) <;> first | assumption | rfl | omega | trivial))) -- o13 e3.2
    · exact fun _ => (Sx_br s c1).1 -- o14 e3.3
/-- values a kind has, marks counted as many -/
def k1K (k : Int) : Int := if k = 2 then 1000 else bsK k
def apN : List Int → Int
  | [] => 1
  | k :: l => k1K k * apN l
theorem k1K_r (k : Int) : 1 ≤ k1K k ∧ k1K k ≤ 1000 := by unfold k1K bsK; split <;> (try split) <;> omega
theorem apN_pt : ∀ {ks : List Int}, ¬ 2 ∈ ks → apN ks = ptN ks
  | [], _ => rfl
  | k :: l, h => by
    show k1K k * apN l = bsK k * ptN l
    rw [apN_pt (fun z => h (List.mem_cons_of_mem _ z))]
    unfold k1K
    rw [if_neg (fun z => h (by rw [z]; exact List.mem_cons_self))]
theorem kL_drop {ks : List Int} {a : Int} (a0 : 0 ≤ a) (a1 : a < (ks.length : Int)) : ks.drop a.toNat = kL ks a :: ks.drop (a + 1).toNat := by
  rw [show (a + 1).toNat = a.toNat + 1 by omega, List.drop_eq_getElem_cons (by omega)]
  unfold kL
  rw [List.getD_eq_getElem?_getD, List.getElem?_eq_getElem (by omega)]
  rfl
theorem vX4_allPoints_j38_4 (a0 : Int) (a2 : Int) (t0 : Int) (t1 : Int) {h : AH} (b : 1 ≤ t0 ∧ t0 ≤ 1000000 ∧ 1 ≤ t1 ∧ t1 ≤ 1000 ∧ 0 ≤ a2 ∧ a2 ≤ 3) : OK (gX4_allPoints_j38_4 a0 a2 t0 t1 h) (Sum.elim (fun r => jt2 r fun y z => y = t0 * t1 ∧ z = a2 + 1) (fun y => (0 : Int) = 1)) := by
  have B1 : 1 ≤ t0 * t1 := Int.mul_pos (by omega) (by omega)
  have B2 : t0 * t1 ≤ 1000000 * 1000 := Int.le_trans (Int.mul_le_mul_of_nonneg_right b.2.1 (by omega)) (Int.mul_le_mul_of_nonneg_left b.2.2.2.1 (by omega))
  unfold gX4_allPoints_j38_4
  refine OK_jlx (fun x7 ex7 => ?_)
  try simp (disch := omega) only [jst_eq, jst_ne, jst_ni, jI_i, jcmp_lt, jcmp_gt, w32_id, jcpy_out, Sum.elim_inl, Sum.elim_inr, jt2, jt3, jt4, jt5, jt6, jt7, jt8] at ex7
  refine OK_jlx (fun x8 ex8 => ?_)
  try simp (disch := omega) only [jst_eq, jst_ne, jst_ni, jI_i, jcmp_lt, jcmp_gt, w32_id, jcpy_out, Sum.elim_inl, Sum.elim_inr, jt2, jt3, jt4, jt5, jt6, jt7, jt8] at ex8
  refine OK_some ?_
  try dsimp only [Sum.elim_inl, Sum.elim_inr, jt2, jt3, jt4, jt5, jt6, jt7, jt8]
  exact ⟨by (first | exact ex7 | rfl | (rw [ex7]; exact w32_id (by omega) (by omega))), by (first | exact ex8 | rfl | (rw [ex8]; exact w32_id (by omega) (by omega)) | omega)⟩ -- o1 e1
theorem vX4_allPoints_l4 (i0 : Int) (a10 : Int) (a20 : Int) {h : AH} {ks : List Int} (kd : h i0 1 = (ks.length : Int) ∧ ks.length ≤ 3 ∧ ∀ k, 0 ≤ k → k < (ks.length : Int) → h (i0 + 1) k = kL ks k) (h1 : a10 = 1 ∧ a20 = 0) : OK (gX4_allPoints_l4 i0 a10 a20 h) (fun r => r = apN ks) := by
  unfold gX4_allPoints_l4
  refine OK_jit (I := (fun (s : Int × Int) => jt2 s fun a1 a2 => (0 ≤ a2 ∧ a2 ≤ (ks.length : Int) ∧ 1 ≤ a1 ∧ (a2 = 0 → a1 ≤ 1) ∧ (a2 = 1 → a1 ≤ 1000) ∧ (a2 = 2 → a1 ≤ 1000000)) ∧ (a1 * apN (ks.drop a2.toNat) = apN ks))) (m := (fun (s : Int × Int) => jt2 s fun a1 a2 => (3 - a2).toNat)) ?_ ?_
  · intro s hs
    obtain ⟨a1, a2⟩ := s
    dsimp only [Sum.elim_inl, Sum.elim_inr, jt2, jt3, jt4, jt5, jt6, jt7, jt8] at hs
    obtain ⟨q0, q1⟩ := hs
    unfold gX4_allPoints_b4
    refine OK_jt2 ?_
    refine OK_if (fun c1 => ?_) (fun c1 => ?_)
    · skip
      try simp (disch := omega) only [jst_eq, jst_ne, jst_ni, jI_i, jcmp_lt, jcmp_gt, w32_id, jcpy_out, Sum.elim_inl, Sum.elim_inr, jt2, jt3, jt4, jt5, jt6, jt7, jt8] at c1
      refine OK_ir ?_
      (have q := q1; rw [show ks.drop a2.toNat = [] from List.drop_eq_nil_of_le (by omega)] at q; rw [← q]; show a1 = a1 * 1; omega) -- o1 e1
    · skip
      try simp (disch := omega) only [jst_eq, jst_ne, jst_ni, jI_i, jcmp_lt, jcmp_gt, w32_id, jcpy_out, Sum.elim_inl, Sum.elim_inr, jt2, jt3, jt4, jt5, jt6, jt7, jt8] at c1
      have KD := kd.2.2 a2 q0.1 (by omega)
      have KR := k1K_r (kL ks a2)
      have DR := kL_drop (ks := ks) q0.1 (by omega)
      refine OK_jg (by (first | assumption | omega | ((try dsimp only [jt2, jt3, jt4]); first | omega | (simp (disch := omega) only [jst_eq, jst_ne, jst_ni, jst_o, jI_i, jcpy_out, w32_id, jdiv_nn, jshr_k, jand_255] <;> first | done | omega | assumption)) | (intros; simp (disch := omega) only [jst_eq, jst_ne, jst_ni, jst_o, jI_i, jcpy_out, w32_id, jdiv_nn, *] <;> first | done | omega) | (intros; simp (disch := omega) only [jst_eq, jst_ne, jst_ni, jst_o, jI_i, jcpy_out, w32_id, jdiv_nn] at * <;> first | done | omega | assumption) | (intros; first | rfl | (exfalso; omega) | ((repeat' apply And.intro) <;> first | assumption | rfl | omega | trivial)))) ?_ -- o2
      refine OK_if (fun c2 => ?_) (fun c2 => ?_)
      · skip
        try simp (disch := omega) only [jst_eq, jst_ne, jst_ni, jI_i, jcmp_lt, jcmp_gt, w32_id, jcpy_out, Sum.elim_inl, Sum.elim_inr, jt2, jt3, jt4, jt5, jt6, jt7, jt8] at c2
        have K2 : k1K (kL ks a2) = 1000 := by { rw [show kL ks a2 = 2 by omega]; rfl }
        refine OK_mono (vX4_allPoints_j38_4 _ _ _ _ (by omega)) (fun r r1 => ?_)
        rcases r with r | r
        · skip
          have r2 := r1; clear r1; dsimp only [Sum.elim_inl, Sum.elim_inr] at r2
          obtain ⟨y1, y2⟩ := r
          try dsimp only [Sum.elim_inl, Sum.elim_inr, jt2, jt3, jt4, jt5, jt6, jt7, jt8] at r2
          have v1 := r2
          clear r2
          try simp (disch := omega) only [jst_eq, jst_ne, jst_ni, jI_i, jcmp_lt, jcmp_gt, w32_id, jcpy_out, Sum.elim_inl, Sum.elim_inr, jt2, jt3, jt4, jt5, jt6, jt7, jt8] at v1
          try dsimp only [Sum.elim_inl, Sum.elim_inr, jt2, jt3, jt4, jt5, jt6, jt7, jt8]
          refine ⟨?_, ?_⟩
          · try dsimp only [Sum.elim_inl, Sum.elim_inr, jt2, jt3, jt4, jt5, jt6, jt7, jt8]
            refine ⟨?_, ?_⟩
            · omega -- o4 e2i.1
            · (rw [v1.1, v1.2, ← q1, DR]; show a1 * 1000 * apN _ = a1 * (k1K (kL ks a2) * apN _); rw [K2, Int.mul_assoc]) -- o5 e2i.2
          · omega -- o6 e2m
        · skip
          have r3 := r1; clear r1; dsimp only [Sum.elim_inl, Sum.elim_inr] at r3
          try dsimp only [Sum.elim_inl, Sum.elim_inr, jt2, jt3, jt4, jt5, jt6, jt7, jt8] at r3
          have no2 := r3
          clear r3
          try simp (disch := omega) only [jst_eq, jst_ne, jst_ni, jI_i, jcmp_lt, jcmp_gt, w32_id, jcpy_out, Sum.elim_inl, Sum.elim_inr, jt2, jt3, jt4, jt5, jt6, jt7, jt8] at no2
          try dsimp only [Sum.elim_inl, Sum.elim_inr, jt2, jt3, jt4, jt5, jt6, jt7, jt8]
          exact absurd no2 (by decide) -- o7 e3
      · skip
        try simp (disch := omega) only [jst_eq, jst_ne, jst_ni, jI_i, jcmp_lt, jcmp_gt, w32_id, jcpy_out, Sum.elim_inl, Sum.elim_inr, jt2, jt3, jt4, jt5, jt6, jt7, jt8] at c2
        refine OK_jb (vX4_valuesOf _) (fun v6 r4 => ?_)
        try dsimp only [Sum.elim_inl, Sum.elim_inr, jt2, jt3, jt4, jt5, jt6, jt7, jt8] at r4
        have bv3 := r4
        clear r4
        try simp (disch := omega) only [jst_eq, jst_ne, jst_ni, jI_i, jcmp_lt, jcmp_gt, w32_id, jcpy_out, Sum.elim_inl, Sum.elim_inr, jt2, jt3, jt4, jt5, jt6, jt7, jt8] at bv3
        have K3 : k1K (kL ks a2) = v6 := by { unfold k1K; rw [if_neg (fun z => c2 (by omega)), bv3, KD] }
        have V6 : v6 = 16 ∨ v6 = 2 := by { rw [bv3]; unfold bsK; split; { exact Or.inl rfl }; { exact Or.inr rfl } }
        refine OK_mono (vX4_allPoints_j38_4 _ _ _ _ (by omega)) (fun r r5 => ?_)
        rcases r with r | r
        · skip
          have r6 := r5; clear r5; dsimp only [Sum.elim_inl, Sum.elim_inr] at r6
          obtain ⟨y3, y4⟩ := r
          try dsimp only [Sum.elim_inl, Sum.elim_inr, jt2, jt3, jt4, jt5, jt6, jt7, jt8] at r6
          have v4 := r6
          clear r6
          try simp (disch := omega) only [jst_eq, jst_ne, jst_ni, jI_i, jcmp_lt, jcmp_gt, w32_id, jcpy_out, Sum.elim_inl, Sum.elim_inr, jt2, jt3, jt4, jt5, jt6, jt7, jt8] at v4
          try dsimp only [Sum.elim_inl, Sum.elim_inr, jt2, jt3, jt4, jt5, jt6, jt7, jt8]
          refine ⟨?_, ?_⟩
          · try dsimp only [Sum.elim_inl, Sum.elim_inr, jt2, jt3, jt4, jt5, jt6, jt7, jt8]
            refine ⟨?_, ?_⟩
            · (obtain ⟨z1, z2⟩ := v4; rcases V6 with z | z <;> rw [z] at z1 <;> omega) -- o9 e4i.1
            · (rw [v4.1, v4.2, ← q1, DR]; show a1 * v6 * apN _ = a1 * (k1K (kL ks a2) * apN _); rw [K3, Int.mul_assoc]) -- o10 e4i.2
          · omega -- o11 e4m
        · skip
          have r7 := r5; clear r5; dsimp only [Sum.elim_inl, Sum.elim_inr] at r7
          try dsimp only [Sum.elim_inl, Sum.elim_inr, jt2, jt3, jt4, jt5, jt6, jt7, jt8] at r7
          have no5 := r7
          clear r7
          try simp (disch := omega) only [jst_eq, jst_ne, jst_ni, jI_i, jcmp_lt, jcmp_gt, w32_id, jcpy_out, Sum.elim_inl, Sum.elim_inr, jt2, jt3, jt4, jt5, jt6, jt7, jt8] at no5
          try dsimp only [Sum.elim_inl, Sum.elim_inr, jt2, jt3, jt4, jt5, jt6, jt7, jt8]
          exact absurd no5 (by decide) -- o12 e5
  · try dsimp only [Sum.elim_inl, Sum.elim_inr, jt2, jt3, jt4, jt5, jt6, jt7, jt8]
    refine ⟨?_, ?_⟩
    · omega -- o13 init.1
    · (rw [h1.1, h1.2, Int.one_mul]; rfl) -- o14 init.2
theorem vX4_allPoints (a0 : Int) {h : AH} {ks : List Int} (kd : h a0 1 = (ks.length : Int) ∧ ks.length ≤ 3 ∧ ∀ k, 0 ≤ k → k < (ks.length : Int) → h (a0 + 1) k = kL ks k) : OK (gX4_allPoints a0 h) (fun v => v = apN ks) := by
  unfold gX4_allPoints
  refine OK_jb (vX4_allPoints_l4 (ks := ks) _ _ _ (by (first | assumption | omega | ((try dsimp only [jt2, jt3, jt4]); first | omega | (simp (disch := omega) only [jst_eq, jst_ne, jst_ni, jst_o, jI_i, jcpy_out, w32_id, jdiv_nn, jshr_k, jand_255] <;> first | done | omega | assumption)) | (intros; simp (disch := omega) only [jst_eq, jst_ne, jst_ni, jst_o, jI_i, jcpy_out, w32_id, jdiv_nn, *] <;> first | done | omega) | (intros; simp (disch := omega) only [jst_eq, jst_ne, jst_ni, jst_o, jI_i, jcpy_out, w32_id, jdiv_nn] at * <;> first | done | omega | assumption) | (intros; first | rfl | (exfalso; omega) | ((repeat' apply And.intro) <;> first | assumption | rfl | omega | trivial)))) (by exact ⟨rfl, rfl⟩)) (fun o1 r1 => ?_)
  try dsimp only [Sum.elim_inl, Sum.elim_inr, jt2, jt3, jt4, jt5, jt6, jt7, jt8] at r1
  have v1 := r1
  clear r1
  try simp (disch := omega) only [jst_eq, jst_ne, jst_ni, jI_i, jcmp_lt, jcmp_gt, w32_id, jcpy_out, Sum.elim_inl, Sum.elim_inr, jt2, jt3, jt4, jt5, jt6, jt7, jt8] at v1
  refine OK_some ?_
  try dsimp only [Sum.elim_inl, Sum.elim_inr, jt2, jt3, jt4, jt5, jt6, jt7, jt8]
  (first | assumption | omega | ((try dsimp only [jt2, jt3, jt4]); first | omega | (simp (disch := omega) only [jst_eq, jst_ne, jst_ni, jst_o, jI_i, jcpy_out, w32_id, jdiv_nn, jshr_k, jand_255] <;> first | done | omega | assumption)) | (intros; simp (disch := omega) only [jst_eq, jst_ne, jst_ni, jst_o, jI_i, jcpy_out, w32_id, jdiv_nn, *] <;> first | done | omega) | (intros; simp (disch := omega) only [jst_eq, jst_ne, jst_ni, jst_o, jI_i, jcpy_out, w32_id, jdiv_nn] at * <;> first | done | omega | assumption) | (intros; first | rfl | (exfalso; omega) | ((repeat' apply And.intro) <;> first | assumption | rfl | omega | trivial))) -- o3 e1
theorem vX13_law_j84_52 (a1 : Int) (a2 : Int) (a4 : Int) (t0 : Int) (t1 : Int) {h : AH} (b : (t0 = 0 ∨ t0 = 1) ∧ (t1 = 0 ∨ t1 = 1) ∧ 0 ≤ a4 ∧ a4 ≤ 3) : OK (gX13_law_j84_52 a1 a2 a4 t0 t1 h) (Sum.elim (fun r => jt2 r fun y z => (y = 0 ∨ y = 1) ∧ (y = 1 ↔ t0 = 1 ∨ t1 = 1) ∧ z = a4 + 1) (fun y => (0 : Int) = 1)) := by
  have J := jor_01 b.1 b.2.1
  unfold gX13_law_j84_52
  refine OK_jlx (fun x95 ex95 => ?_)
  try simp (disch := omega) only [jst_eq, jst_ne, jst_ni, jI_i, jcmp_lt, jcmp_gt, w32_id, jcpy_out, Sum.elim_inl, Sum.elim_inr, jt2, jt3, jt4, jt5, jt6, jt7, jt8] at ex95
  refine OK_jlx (fun x96 ex96 => ?_)
  try simp (disch := omega) only [jst_eq, jst_ne, jst_ni, jI_i, jcmp_lt, jcmp_gt, w32_id, jcpy_out, Sum.elim_inl, Sum.elim_inr, jt2, jt3, jt4, jt5, jt6, jt7, jt8] at ex96
  refine OK_some ?_
  try dsimp only [Sum.elim_inl, Sum.elim_inr, jt2, jt3, jt4, jt5, jt6, jt7, jt8]
  exact ⟨by (first | exact J.1 | (rw [ex95]; exact J.1)), by (first | exact J.2 | (rw [ex95]; exact J.2)), by (first | rfl | (rw [ex96]; exact w32_id (by omega) (by omega)) | omega)⟩ -- o1 e1
theorem vX13_law_l52 (i1 : Int) (i2 : Int) (a30 : Int) (a40 : Int) {h : AH} {ks : List Int} (kd : isAk (h 441 20) ∧ h (h 441 20) 1 = (ks.length : Int) ∧ ks.length ≤ 3 ∧ ∀ k, 0 ≤ k → k < (ks.length : Int) → h (h 441 20 + 1) k = kL ks k) (h1 : a40 = 0 ∧ (a30 = 0 ∨ a30 = 1)) : OK (gX13_law_l52 i1 i2 a30 a40 h) (fun r => (r = 0 ∨ r = 1) ∧ (r = 1 ↔ (a30 = 1 ∨ 2 ∈ ks))) := by
  have LA : h 441 20 = 271 ∨ h 441 20 = 289 := kd.1
  unfold gX13_law_l52
  refine OK_jit (I := (fun (s : Int × Int) => jt2 s fun a3 a4 => (0 ≤ a4 ∧ a4 ≤ (ks.length : Int) ∧ (a3 = 0 ∨ a3 = 1)) ∧ (a3 = 1 ↔ (a30 = 1 ∨ 2 ∈ ks.take a4.toNat)))) (m := (fun (s : Int × Int) => jt2 s fun a3 a4 => (3 - a4).toNat)) ?_ ?_
  · intro s hs
    obtain ⟨a3, a4⟩ := s
    dsimp only [Sum.elim_inl, Sum.elim_inr, jt2, jt3, jt4, jt5, jt6, jt7, jt8] at hs
    obtain ⟨q0, q1⟩ := hs
    unfold gX13_law_b52
    refine OK_jt2 ?_
    refine OK_jg (by (first | ((unfold isX4; omega)) | (first | assumption | omega | ((try dsimp only [jt2, jt3, jt4]); first | omega | (simp (disch := omega) only [jst_eq, jst_ne, jst_ni, jst_o, jI_i, jcpy_out, w32_id, jdiv_nn, jshr_k, jand_255] <;> first | done | omega | assumption)) | (intros; simp (disch := omega) only [jst_eq, jst_ne, jst_ni, jst_o, jI_i, jcpy_out, w32_id, jdiv_nn, *] <;> first | done | omega) | (intros; simp (disch := omega) only [jst_eq, jst_ne, jst_ni, jst_o, jI_i, jcpy_out, w32_id, jdiv_nn] at * <;> first | done | omega | assumption) | (intros; first | rfl | (exfalso; omega) | ((repeat' apply And.intro) <;> first | assumption | rfl | omega | trivial))))) ?_ -- o1
    refine OK_if (fun c1 => ?_) (fun c1 => ?_)
    · skip
      try simp (disch := omega) only [jst_eq, jst_ne, jst_ni, jI_i, jcmp_lt, jcmp_gt, w32_id, jcpy_out, Sum.elim_inl, Sum.elim_inr, jt2, jt3, jt4, jt5, jt6, jt7, jt8] at c1
      refine OK_ir ?_
      (refine ⟨q0.2.2, ?_⟩; rw [q1, List.take_of_length_le (by omega)]) -- o2 e1
    · skip
      try simp (disch := omega) only [jst_eq, jst_ne, jst_ni, jI_i, jcmp_lt, jcmp_gt, w32_id, jcpy_out, Sum.elim_inl, Sum.elim_inr, jt2, jt3, jt4, jt5, jt6, jt7, jt8] at c1
      have KD := kd.2.2.2 a4 q0.1 (by omega)
      have TK : ks.take (a4 + 1).toNat = ks.take a4.toNat ++ [kL ks a4] := by { rw [show (a4 + 1).toNat = a4.toNat + 1 by omega, List.take_add_one, List.getElem?_eq_getElem (by omega)]; unfold kL; rw [List.getD_eq_getElem?_getD, List.getElem?_eq_getElem (by omega)]; rfl }
      refine OK_jg (by (first | ((unfold isX4; omega)) | (first | assumption | omega | ((try dsimp only [jt2, jt3, jt4]); first | omega | (simp (disch := omega) only [jst_eq, jst_ne, jst_ni, jst_o, jI_i, jcpy_out, w32_id, jdiv_nn, jshr_k, jand_255] <;> first | done | omega | assumption)) | (intros; simp (disch := omega) only [jst_eq, jst_ne, jst_ni, jst_o, jI_i, jcpy_out, w32_id, jdiv_nn, *] <;> first | done | omega) | (intros; simp (disch := omega) only [jst_eq, jst_ne, jst_ni, jst_o, jI_i, jcpy_out, w32_id, jdiv_nn] at * <;> first | done | omega | assumption) | (intros; first | rfl | (exfalso; omega) | ((repeat' apply And.intro) <;> first | assumption | rfl | omega | trivial))))) ?_ -- o3
      refine OK_if (fun c2 => ?_) (fun c2 => ?_)
      · skip
        try simp (disch := omega) only [jst_eq, jst_ne, jst_ni, jI_i, jcmp_lt, jcmp_gt, w32_id, jcpy_out, Sum.elim_inl, Sum.elim_inr, jt2, jt3, jt4, jt5, jt6, jt7, jt8] at c2
        refine OK_mono (vX13_law_j84_52 _ _ _ _ _ (by omega)) (fun r r1 => ?_)
        rcases r with r | r
        · skip
          have r2 := r1; clear r1; dsimp only [Sum.elim_inl, Sum.elim_inr] at r2
          obtain ⟨y1, y2⟩ := r
          try dsimp only [Sum.elim_inl, Sum.elim_inr, jt2, jt3, jt4, jt5, jt6, jt7, jt8] at r2
          have v1 := r2
          clear r2
          try simp (disch := omega) only [jst_eq, jst_ne, jst_ni, jI_i, jcmp_lt, jcmp_gt, w32_id, jcpy_out, Sum.elim_inl, Sum.elim_inr, jt2, jt3, jt4, jt5, jt6, jt7, jt8] at v1
          try dsimp only [Sum.elim_inl, Sum.elim_inr, jt2, jt3, jt4, jt5, jt6, jt7, jt8]
          refine ⟨?_, ?_⟩
          · try dsimp only [Sum.elim_inl, Sum.elim_inr, jt2, jt3, jt4, jt5, jt6, jt7, jt8]
            refine ⟨?_, ?_⟩
            · (obtain ⟨z1, z2, z3⟩ := v1; omega) -- o5 e2i.1
            · (rw [v1.2.1, q1, v1.2.2, TK, show kL ks a4 = 2 by omega]; exact ⟨fun _ => Or.inr (List.mem_append.mpr (Or.inr (List.mem_singleton.mpr rfl))), fun _ => Or.inr (by first | rfl | trivial)⟩) -- o6 e2i.2
          · (obtain ⟨z1, z2, z3⟩ := v1; omega) -- o7 e2m
        · skip
          have r3 := r1; clear r1; dsimp only [Sum.elim_inl, Sum.elim_inr] at r3
          try dsimp only [Sum.elim_inl, Sum.elim_inr, jt2, jt3, jt4, jt5, jt6, jt7, jt8] at r3
          have no2 := r3
          clear r3
          try simp (disch := omega) only [jst_eq, jst_ne, jst_ni, jI_i, jcmp_lt, jcmp_gt, w32_id, jcpy_out, Sum.elim_inl, Sum.elim_inr, jt2, jt3, jt4, jt5, jt6, jt7, jt8] at no2
          try dsimp only [Sum.elim_inl, Sum.elim_inr, jt2, jt3, jt4, jt5, jt6, jt7, jt8]
          exact absurd no2 (by decide) -- o8 e3
      · skip
        try simp (disch := omega) only [jst_eq, jst_ne, jst_ni, jI_i, jcmp_lt, jcmp_gt, w32_id, jcpy_out, Sum.elim_inl, Sum.elim_inr, jt2, jt3, jt4, jt5, jt6, jt7, jt8] at c2
        refine OK_mono (vX13_law_j84_52 _ _ _ _ _ (by omega)) (fun r r4 => ?_)
        rcases r with r | r
        · skip
          have r5 := r4; clear r4; dsimp only [Sum.elim_inl, Sum.elim_inr] at r5
          obtain ⟨y3, y4⟩ := r
          try dsimp only [Sum.elim_inl, Sum.elim_inr, jt2, jt3, jt4, jt5, jt6, jt7, jt8] at r5
          have v3 := r5
          clear r5
          try simp (disch := omega) only [jst_eq, jst_ne, jst_ni, jI_i, jcmp_lt, jcmp_gt, w32_id, jcpy_out, Sum.elim_inl, Sum.elim_inr, jt2, jt3, jt4, jt5, jt6, jt7, jt8] at v3
          try dsimp only [Sum.elim_inl, Sum.elim_inr, jt2, jt3, jt4, jt5, jt6, jt7, jt8]
          refine ⟨?_, ?_⟩
          · try dsimp only [Sum.elim_inl, Sum.elim_inr, jt2, jt3, jt4, jt5, jt6, jt7, jt8]
            refine ⟨?_, ?_⟩
            · (obtain ⟨z1, z2, z3⟩ := v3; omega) -- o10 e4i.1
            · (rw [v3.2.1, q1, v3.2.2, TK]; constructor; { rintro ((y | y) | y); { exact Or.inl y }; { exact Or.inr (List.mem_append.mpr (Or.inl y)) }; { exact absurd y (by decide) } }; { rintro (y | y); { exact Or.inl (Or.inl y) }; { rcases List.mem_append.mp y with z | z; { exact Or.inl (Or.inr z) }; { exact absurd (List.mem_singleton.mp z) (fun w => c2 (by omega)) } } }) -- o11 e4i.2
          · (obtain ⟨z1, z2, z3⟩ := v3; omega) -- o12 e4m
        · skip
          have r6 := r4; clear r4; dsimp only [Sum.elim_inl, Sum.elim_inr] at r6
          try dsimp only [Sum.elim_inl, Sum.elim_inr, jt2, jt3, jt4, jt5, jt6, jt7, jt8] at r6
          have no4 := r6
          clear r6
          try simp (disch := omega) only [jst_eq, jst_ne, jst_ni, jI_i, jcmp_lt, jcmp_gt, w32_id, jcpy_out, Sum.elim_inl, Sum.elim_inr, jt2, jt3, jt4, jt5, jt6, jt7, jt8] at no4
          try dsimp only [Sum.elim_inl, Sum.elim_inr, jt2, jt3, jt4, jt5, jt6, jt7, jt8]
          exact absurd no4 (by decide) -- o13 e5
  · try dsimp only [Sum.elim_inl, Sum.elim_inr, jt2, jt3, jt4, jt5, jt6, jt7, jt8]
    refine ⟨?_, ?_⟩
    · omega -- o14 init.1
    · (rw [h1.1]; exact ⟨Or.inl, fun y => y.elim id (fun z => by cases z)⟩) -- o15 init.2
theorem vX13_law_j378 (a2 : Int) (a4 : Int) (a5 : Int) (t0 : Int) {h : AH} {B : Int → Int} {n A a m : Int} {R : Int ⊕ Int} (t : TX B n A h) (hB : ∀ i, 0 ≤ i → i < n → 0 ≤ B i ∧ B i < 256) (sx : Sx B n R h) (ak : isAk a ∧ h 441 20 = a ∧ h a 11 = m ∧ 0 ≤ m ∧ m ≤ 4) (ro : (a2 = 0 ∨ a2 = 1) ∧ (a2 = 1 → m < 4)) : OK (gX13_law_j378 a2 a4 a5 t0 h) (fun h' => (Sx B n (bnd R (pW B n 59)) h') ∧ (h' 441 13 = 0 ∧ h' 441 15 = 0 ∧ (h' 441 6 = 0 → h' a 11 = m + a2 ∧ (a2 = 1 → h' (a + 8) m = a5 ∧ h' (a + 9) m = t0 ∧ h' (a + 10) m = a4 ∧ h' (a + 11) (2 * m) = h 444 0 ∧ h' (a + 11) (2 * m + 1) = h 444 1))) ∧ (∀ b s, ¬ (b = 441 ∧ ((2 ≤ s ∧ s ≤ 7) ∨ s = 13 ∨ s = 15)) → ¬ (b = a ∧ s = 11) → ¬ (a + 8 ≤ b ∧ b ≤ a + 10 ∧ s = m) → ¬ (b = a + 11 ∧ 2 * m ≤ s ∧ s ≤ 2 * m + 1) → h' b s = h b s)) := by
  have LA : a = 271 ∨ a = 289 := ak.1
  have ta := t.2.2.2.2
  unfold gX13_law_j378
  refine OK_jl ?_
  have F35 : ∀ b s, ¬ (b = 441 ∧ s = 15) → jst h 441 15 0 b s = h b s := fun b s y => jst_o y
  have V35 : jst h 441 15 0 441 15 = 0 := jst_eq
  generalize jst h 441 15 0 = g35 at *
  refine OK_jl ?_
  have F36 : ∀ b s, ¬ (b = 441 ∧ s = 13) → jst g35 441 13 0 b s = g35 b s := fun b s y => jst_o y
  have V36 : jst g35 441 13 0 441 13 = 0 := jst_eq
  generalize jst g35 441 13 0 = g36 at *
  have G36 : ∀ b s, ¬ (b = 441 ∧ (s = 13 ∨ s = 15)) → g36 b s = h b s := fun b s y => (F36 b s (by omega)).trans (F35 b s (by omega))
  refine OK_jb (vX13_wantB (B := B) (n := n) (A := A) (c := 59) (r := R) _ (by exact TX_fr t (G36 _ _ (by omega)) (G36 _ _ (by omega)) (fun s => G36 _ _ (by omega))) (by exact hB) (by exact Sx_fr sx (fun s s0 s1 => G36 _ _ (by omega))) (by exact Or.inr ⟨by unfold sgn; omega, rfl⟩)) (fun h38 r1 => ?_)
  try dsimp only [Sum.elim_inl, Sum.elim_inr, jt2, jt3, jt4, jt5, jt6, jt7, jt8] at r1
  obtain ⟨sx1, fr1, br1⟩ := r1
  try simp (disch := omega) only [jst_eq, jst_ne, jst_ni, jI_i, jcmp_lt, jcmp_gt, w32_id, jcpy_out, Sum.elim_inl, Sum.elim_inr, jt2, jt3, jt4, jt5, jt6, jt7, jt8] at sx1
  try simp (disch := omega) only [jst_eq, jst_ne, jst_ni, jI_i, jcmp_lt, jcmp_gt, w32_id, jcpy_out, Sum.elim_inl, Sum.elim_inr, jt2, jt3, jt4, jt5, jt6, jt7, jt8] at fr1
  try simp (disch := omega) only [jst_eq, jst_ne, jst_ni, jI_i, jcmp_lt, jcmp_gt, w32_id, jcpy_out, Sum.elim_inl, Sum.elim_inr, jt2, jt3, jt4, jt5, jt6, jt7, jt8] at br1
  have G38 : ∀ b s, ¬ (b = 441 ∧ ((2 ≤ s ∧ s ≤ 7) ∨ s = 13 ∨ s = 15)) → h38 b s = h b s := fun b s y => (fr1 b s (by omega)).trans (G36 b s (by omega))
  have V38 : h38 441 13 = 0 ∧ h38 441 15 = 0 := ⟨by rw [fr1 _ _ (by omega)]; exact V36, by rw [fr1 _ _ (by omega), F36 _ _ (by omega)]; exact V35⟩
  have E20 : h38 441 20 = a := (G38 _ _ (by omega)).trans ak.2.1
  have E11 : h38 a 11 = m := (G38 _ _ (by omega)).trans ak.2.2.1
  clear F35 F36 G36 V35 V36
  refine OK_if (fun c1 => ?_) (fun c1 => ?_)
  · skip
    try simp (disch := omega) only [jst_eq, jst_ne, jst_ni, jI_i, jcmp_lt, jcmp_gt, w32_id, jcpy_out, Sum.elim_inl, Sum.elim_inr, jt2, jt3, jt4, jt5, jt6, jt7, jt8] at c1
    refine OK_if (fun c2 => ?_) (fun c2 => ?_)
    · skip
      try simp (disch := omega) only [jst_eq, jst_ne, jst_ni, jI_i, jcmp_lt, jcmp_gt, w32_id, jcpy_out, Sum.elim_inl, Sum.elim_inr, jt2, jt3, jt4, jt5, jt6, jt7, jt8] at c2
      refine OK_some ?_
      try dsimp only [Sum.elim_inl, Sum.elim_inr, jt2, jt3, jt4, jt5, jt6, jt7, jt8]
      try dsimp only [Sum.elim_inl, Sum.elim_inr, jt2, jt3, jt4, jt5, jt6, jt7, jt8]
      refine ⟨?_, ?_, ?_⟩
      · (first | ((unfold isX4; omega)) | (first | assumption | omega | ((try dsimp only [jt2, jt3, jt4]); first | omega | (simp (disch := omega) only [jst_eq, jst_ne, jst_ni, jst_o, jI_i, jcpy_out, w32_id, jdiv_nn, jshr_k, jand_255] <;> first | done | omega | assumption)) | (intros; simp (disch := omega) only [jst_eq, jst_ne, jst_ni, jst_o, jI_i, jcpy_out, w32_id, jdiv_nn, *] <;> first | done | omega) | (intros; simp (disch := omega) only [jst_eq, jst_ne, jst_ni, jst_o, jI_i, jcpy_out, w32_id, jdiv_nn] at * <;> first | done | omega | assumption) | (intros; first | rfl | (exfalso; omega) | ((repeat' apply And.intro) <;> first | assumption | rfl | omega | trivial)))) -- o5 e1.1
      · exact ⟨V38.1, V38.2, fun _ => ⟨by omega, fun z => by omega⟩⟩ -- o6 e1.2
      · exact fun b s y1 _ _ _ => G38 b s y1 -- o7 e1.3
    · skip
      try simp (disch := omega) only [jst_eq, jst_ne, jst_ni, jI_i, jcmp_lt, jcmp_gt, w32_id, jcpy_out, Sum.elim_inl, Sum.elim_inr, jt2, jt3, jt4, jt5, jt6, jt7, jt8] at c2
      rw [E20, E11]
      refine OK_jg (by (first | ((unfold isX4; omega)) | (first | assumption | omega | ((try dsimp only [jt2, jt3, jt4]); first | omega | (simp (disch := omega) only [jst_eq, jst_ne, jst_ni, jst_o, jI_i, jcpy_out, w32_id, jdiv_nn, jshr_k, jand_255] <;> first | done | omega | assumption)) | (intros; simp (disch := omega) only [jst_eq, jst_ne, jst_ni, jst_o, jI_i, jcpy_out, w32_id, jdiv_nn, *] <;> first | done | omega) | (intros; simp (disch := omega) only [jst_eq, jst_ne, jst_ni, jst_o, jI_i, jcpy_out, w32_id, jdiv_nn] at * <;> first | done | omega | assumption) | (intros; first | rfl | (exfalso; omega) | ((repeat' apply And.intro) <;> first | assumption | rfl | omega | trivial))))) ?_ -- o8
      refine OK_jl ?_
      have F41 : ∀ b s, ¬ (b = a ∧ s = 11) → jst h38 a 11 (w32 (m + 1)) b s = h38 b s := fun b s y => jst_o y
      have V41 : jst h38 a 11 (w32 (m + 1)) a 11 = m + 1 := jst_eq.trans (w32_id (by omega) (by omega))
      generalize jst h38 a 11 (w32 (m + 1)) = g41 at *
      refine OK_jlx (fun x42 ex42 => ?_)
      try simp (disch := omega) only [jst_eq, jst_ne, jst_ni, jI_i, jcmp_lt, jcmp_gt, w32_id, jcpy_out, Sum.elim_inl, Sum.elim_inr, jt2, jt3, jt4, jt5, jt6, jt7, jt8] at ex42
      rw [ex42, F41 441 20 (by omega), E20]
      refine OK_jg (by (first | ((unfold isX4; omega)) | (first | assumption | omega | ((try dsimp only [jt2, jt3, jt4]); first | omega | (simp (disch := omega) only [jst_eq, jst_ne, jst_ni, jst_o, jI_i, jcpy_out, w32_id, jdiv_nn, jshr_k, jand_255] <;> first | done | omega | assumption)) | (intros; simp (disch := omega) only [jst_eq, jst_ne, jst_ni, jst_o, jI_i, jcpy_out, w32_id, jdiv_nn, *] <;> first | done | omega) | (intros; simp (disch := omega) only [jst_eq, jst_ne, jst_ni, jst_o, jI_i, jcpy_out, w32_id, jdiv_nn] at * <;> first | done | omega | assumption) | (intros; first | rfl | (exfalso; omega) | ((repeat' apply And.intro) <;> first | assumption | rfl | omega | trivial))))) ?_ -- o9
      refine OK_jg (by (first | ((unfold isX4; omega)) | (first | assumption | omega | ((try dsimp only [jt2, jt3, jt4]); first | omega | (simp (disch := omega) only [jst_eq, jst_ne, jst_ni, jst_o, jI_i, jcpy_out, w32_id, jdiv_nn, jshr_k, jand_255] <;> first | done | omega | assumption)) | (intros; simp (disch := omega) only [jst_eq, jst_ne, jst_ni, jst_o, jI_i, jcpy_out, w32_id, jdiv_nn, *] <;> first | done | omega) | (intros; simp (disch := omega) only [jst_eq, jst_ne, jst_ni, jst_o, jI_i, jcpy_out, w32_id, jdiv_nn] at * <;> first | done | omega | assumption) | (intros; first | rfl | (exfalso; omega) | ((repeat' apply And.intro) <;> first | assumption | rfl | omega | trivial))))) ?_ -- o10
      refine OK_jl ?_
      have F43 : ∀ b s, ¬ (b = a + 8 ∧ s = m) → jst g41 (a + 8) m a5 b s = g41 b s := fun b s y => jst_o y
      have V43 : jst g41 (a + 8) m a5 (a + 8) m = a5 := jst_eq
      generalize jst g41 (a + 8) m a5 = g43 at *
      have E43 : g43 441 20 = a := (F43 441 20 (by omega)).trans ((F41 441 20 (by omega)).trans E20)
      rw [E43]
      refine OK_jg (by (first | ((unfold isX4; omega)) | (first | assumption | omega | ((try dsimp only [jt2, jt3, jt4]); first | omega | (simp (disch := omega) only [jst_eq, jst_ne, jst_ni, jst_o, jI_i, jcpy_out, w32_id, jdiv_nn, jshr_k, jand_255] <;> first | done | omega | assumption)) | (intros; simp (disch := omega) only [jst_eq, jst_ne, jst_ni, jst_o, jI_i, jcpy_out, w32_id, jdiv_nn, *] <;> first | done | omega) | (intros; simp (disch := omega) only [jst_eq, jst_ne, jst_ni, jst_o, jI_i, jcpy_out, w32_id, jdiv_nn] at * <;> first | done | omega | assumption) | (intros; first | rfl | (exfalso; omega) | ((repeat' apply And.intro) <;> first | assumption | rfl | omega | trivial))))) ?_ -- o11
      refine OK_jl ?_
      have F44 : ∀ b s, ¬ (b = a + 9 ∧ s = m) → jst g43 (a + 9) m t0 b s = g43 b s := fun b s y => jst_o y
      have V44 : jst g43 (a + 9) m t0 (a + 9) m = t0 := jst_eq
      generalize jst g43 (a + 9) m t0 = g44 at *
      have E44 : g44 441 20 = a := (F44 441 20 (by omega)).trans E43
      rw [E44]
      refine OK_jg (by (first | ((unfold isX4; omega)) | (first | assumption | omega | ((try dsimp only [jt2, jt3, jt4]); first | omega | (simp (disch := omega) only [jst_eq, jst_ne, jst_ni, jst_o, jI_i, jcpy_out, w32_id, jdiv_nn, jshr_k, jand_255] <;> first | done | omega | assumption)) | (intros; simp (disch := omega) only [jst_eq, jst_ne, jst_ni, jst_o, jI_i, jcpy_out, w32_id, jdiv_nn, *] <;> first | done | omega) | (intros; simp (disch := omega) only [jst_eq, jst_ne, jst_ni, jst_o, jI_i, jcpy_out, w32_id, jdiv_nn] at * <;> first | done | omega | assumption) | (intros; first | rfl | (exfalso; omega) | ((repeat' apply And.intro) <;> first | assumption | rfl | omega | trivial))))) ?_ -- o12
      refine OK_jl ?_
      have F45 : ∀ b s, ¬ (b = a + 10 ∧ s = m) → jst g44 (a + 10) m a4 b s = g44 b s := fun b s y => jst_o y
      have V45 : jst g44 (a + 10) m a4 (a + 10) m = a4 := jst_eq
      generalize jst g44 (a + 10) m a4 = g45 at *
      have E45 : g45 441 20 = a := (F45 441 20 (by omega)).trans E44
      have W1 : w32 (2 * m) = 2 * m := w32_id (by omega) (by omega)
      have W2 : w32 (2 * m + 1) = 2 * m + 1 := w32_id (by omega) (by omega)
      rw [E45, W1, W2]
      refine OK_jg (by (first | ((unfold isX4; omega)) | (first | assumption | omega | ((try dsimp only [jt2, jt3, jt4]); first | omega | (simp (disch := omega) only [jst_eq, jst_ne, jst_ni, jst_o, jI_i, jcpy_out, w32_id, jdiv_nn, jshr_k, jand_255] <;> first | done | omega | assumption)) | (intros; simp (disch := omega) only [jst_eq, jst_ne, jst_ni, jst_o, jI_i, jcpy_out, w32_id, jdiv_nn, *] <;> first | done | omega) | (intros; simp (disch := omega) only [jst_eq, jst_ne, jst_ni, jst_o, jI_i, jcpy_out, w32_id, jdiv_nn] at * <;> first | done | omega | assumption) | (intros; first | rfl | (exfalso; omega) | ((repeat' apply And.intro) <;> first | assumption | rfl | omega | trivial))))) ?_ -- o13
      refine OK_jg (by (first | ((unfold isX4; omega)) | (first | assumption | omega | ((try dsimp only [jt2, jt3, jt4]); first | omega | (simp (disch := omega) only [jst_eq, jst_ne, jst_ni, jst_o, jI_i, jcpy_out, w32_id, jdiv_nn, jshr_k, jand_255] <;> first | done | omega | assumption)) | (intros; simp (disch := omega) only [jst_eq, jst_ne, jst_ni, jst_o, jI_i, jcpy_out, w32_id, jdiv_nn, *] <;> first | done | omega) | (intros; simp (disch := omega) only [jst_eq, jst_ne, jst_ni, jst_o, jI_i, jcpy_out, w32_id, jdiv_nn] at * <;> first | done | omega | assumption) | (intros; first | rfl | (exfalso; omega) | ((repeat' apply And.intro) <;> first | assumption | rfl | omega | trivial))))) ?_ -- o14
      refine OK_jl ?_
      have F46 : ∀ b s, ¬ (b = a + 11 ∧ s = 2 * m) → jst g45 (a + 11) (2 * m) (g45 444 0) b s = g45 b s := fun b s y => jst_o y
      have V46 : jst g45 (a + 11) (2 * m) (g45 444 0) (a + 11) (2 * m) = g45 444 0 := jst_eq
      generalize jst g45 (a + 11) (2 * m) (g45 444 0) = g46 at *
      have E46 : g46 441 20 = a := (F46 441 20 (by omega)).trans E45
      rw [E46]
      refine OK_jg (by (first | ((unfold isX4; omega)) | (first | assumption | omega | ((try dsimp only [jt2, jt3, jt4]); first | omega | (simp (disch := omega) only [jst_eq, jst_ne, jst_ni, jst_o, jI_i, jcpy_out, w32_id, jdiv_nn, jshr_k, jand_255] <;> first | done | omega | assumption)) | (intros; simp (disch := omega) only [jst_eq, jst_ne, jst_ni, jst_o, jI_i, jcpy_out, w32_id, jdiv_nn, *] <;> first | done | omega) | (intros; simp (disch := omega) only [jst_eq, jst_ne, jst_ni, jst_o, jI_i, jcpy_out, w32_id, jdiv_nn] at * <;> first | done | omega | assumption) | (intros; first | rfl | (exfalso; omega) | ((repeat' apply And.intro) <;> first | assumption | rfl | omega | trivial))))) ?_ -- o15
      refine OK_jg (by (first | ((unfold isX4; omega)) | (first | assumption | omega | ((try dsimp only [jt2, jt3, jt4]); first | omega | (simp (disch := omega) only [jst_eq, jst_ne, jst_ni, jst_o, jI_i, jcpy_out, w32_id, jdiv_nn, jshr_k, jand_255] <;> first | done | omega | assumption)) | (intros; simp (disch := omega) only [jst_eq, jst_ne, jst_ni, jst_o, jI_i, jcpy_out, w32_id, jdiv_nn, *] <;> first | done | omega) | (intros; simp (disch := omega) only [jst_eq, jst_ne, jst_ni, jst_o, jI_i, jcpy_out, w32_id, jdiv_nn] at * <;> first | done | omega | assumption) | (intros; first | rfl | (exfalso; omega) | ((repeat' apply And.intro) <;> first | assumption | rfl | omega | trivial))))) ?_ -- o16
      refine OK_jl ?_
      have F47 : ∀ b s, ¬ (b = a + 11 ∧ s = 2 * m + 1) → jst g46 (a + 11) (2 * m + 1) (g46 444 1) b s = g46 b s := fun b s y => jst_o y
      have V47 : jst g46 (a + 11) (2 * m + 1) (g46 444 1) (a + 11) (2 * m + 1) = g46 444 1 := jst_eq
      generalize jst g46 (a + 11) (2 * m + 1) (g46 444 1) = g47 at *
      have G47 : ∀ b s, ¬ (b = a ∧ s = 11) → ¬ (a + 8 ≤ b ∧ b ≤ a + 10 ∧ s = m) → ¬ (b = a + 11 ∧ 2 * m ≤ s ∧ s ≤ 2 * m + 1) → g47 b s = h38 b s := fun b s y1 y2 y3 => (F47 b s (by omega)).trans ((F46 b s (by omega)).trans ((F45 b s (by omega)).trans ((F44 b s (by omega)).trans ((F43 b s (by omega)).trans (F41 b s y1)))))
      refine OK_some ?_
      try dsimp only [Sum.elim_inl, Sum.elim_inr, jt2, jt3, jt4, jt5, jt6, jt7, jt8]
      try dsimp only [Sum.elim_inl, Sum.elim_inr, jt2, jt3, jt4, jt5, jt6, jt7, jt8]
      refine ⟨?_, ?_, ?_⟩
      · exact Sx_fr sx1 (fun s s0 s1 => G47 _ _ (by omega) (by omega) (by omega)) -- o17 e2.1
      · (refine ⟨(G47 _ _ (by omega) (by omega) (by omega)).trans V38.1, (G47 _ _ (by omega) (by omega) (by omega)).trans V38.2, fun _ => ⟨?_, fun _ => ⟨?_, ?_, ?_, ?_, ?_⟩⟩⟩; { rw [F47 _ _ (by omega), F46 _ _ (by omega), F45 _ _ (by omega), F44 _ _ (by omega), F43 _ _ (by omega), V41]; omega }; { rw [F47 _ _ (by omega), F46 _ _ (by omega), F45 _ _ (by omega), F44 _ _ (by omega)]; exact V43 }; { rw [F47 _ _ (by omega), F46 _ _ (by omega), F45 _ _ (by omega)]; exact V44 }; { rw [F47 _ _ (by omega), F46 _ _ (by omega)]; exact V45 }; { rw [F47 _ _ (by omega), V46, F45 _ _ (by omega), F44 _ _ (by omega), F43 _ _ (by omega), F41 _ _ (by omega)]; exact G38 _ _ (by omega) }; { rw [V47, F46 _ _ (by omega), F45 _ _ (by omega), F44 _ _ (by omega), F43 _ _ (by omega), F41 _ _ (by omega)]; exact G38 _ _ (by omega) }) -- o18 e2.2
      · exact fun b s y1 y2 y3 y4 => (G47 b s y2 y3 y4).trans (G38 b s y1) -- o19 e2.3
  · skip
    try simp (disch := omega) only [jst_eq, jst_ne, jst_ni, jI_i, jcmp_lt, jcmp_gt, w32_id, jcpy_out, Sum.elim_inl, Sum.elim_inr, jt2, jt3, jt4, jt5, jt6, jt7, jt8] at c1
    refine OK_some ?_
    try dsimp only [Sum.elim_inl, Sum.elim_inr, jt2, jt3, jt4, jt5, jt6, jt7, jt8]
    try dsimp only [Sum.elim_inl, Sum.elim_inr, jt2, jt3, jt4, jt5, jt6, jt7, jt8]
    refine ⟨?_, ?_, ?_⟩
    · (first | ((unfold isX4; omega)) | (first | assumption | omega | ((try dsimp only [jt2, jt3, jt4]); first | omega | (simp (disch := omega) only [jst_eq, jst_ne, jst_ni, jst_o, jI_i, jcpy_out, w32_id, jdiv_nn, jshr_k, jand_255] <;> first | done | omega | assumption)) | (intros; simp (disch := omega) only [jst_eq, jst_ne, jst_ni, jst_o, jI_i, jcpy_out, w32_id, jdiv_nn, *] <;> first | done | omega) | (intros; simp (disch := omega) only [jst_eq, jst_ne, jst_ni, jst_o, jI_i, jcpy_out, w32_id, jdiv_nn] at * <;> first | done | omega | assumption) | (intros; first | rfl | (exfalso; omega) | ((repeat' apply And.intro) <;> first | assumption | rfl | omega | trivial)))) -- o20 e3.1
    · exact ⟨V38.1, V38.2, fun z => absurd z c1⟩ -- o21 e3.2
    · exact fun b s y1 _ _ _ => G38 b s y1 -- o22 e3.3
/-! a law's terms -/
def rmT (B : Int → Int) (n T : Int) (R : Int ⊕ Int) (h : AH) : Prop := ∃ u, 0 ≤ u ∧ u ≤ n ∧ 0 ≤ h T 0 ∧ h T 0 + (n - u) ≤ 2100 ∧ ∀ q, R = .inr q → u ≤ q
def lwT (B : Int → Int) (n A T : Int) (E : EV) (R : Int ⊕ Int) (h : AH) : Prop := (TX B n A h ∧ semX B n h E ∧ Od h ∧ h 441 17 = T ∧ Tset T ∧ capT h T 2200 ∧ h 441 14 = (if false = true then 1 else 0) ∧ h (T + 3) (-2) = 101) ∧ f8X h ∧ Sx B n R h ∧ rmT B n T R h
def lwG (T : Int) (E : EV) (w : Int) (h : AH) (v : Int) (h' : AH) (P : PR) : Prop := match P with
  | .inl _ => True
  | .inr (t, _) => (v = h T 0 ∧ 0 ≤ v ∧ h' T 0 = v + sz t ∧ v + sz t ≤ 2100) ∧ rXc h' T (rsE E t 0) v 0 (v + 1) ∧ FK h' = min (FK h) (keyE E w t) ∧ h' (T + 3) v = kdE E t ∧ h' 441 16 = 0
theorem vX13_toldL (a1 : Int) {h : AH} {B : Int → Int} {n A T : Int} {E : EV} {R : Int ⊕ Int} (hB : ∀ i, 0 ≤ i → i < n → 0 ≤ B i ∧ B i < 256) (c : lwT B n A T E R h) (hz : h 441 16 = 0) : OK (gX13_told a1 h) (fun r => jt2 r fun v h' => frT T (h T 0) h h' ∧ lwT B n A T E (sR (bdT R (pT B n false 13))) h' ∧ (0 ≤ v ∧ v < 2200 ∧ h T 0 ≤ h' T 0) ∧ lwG T E a1 h v h' (bdT R (pT B n false 13))) := by
  obtain ⟨c1, c2, c3, u, u0, u1, u2, u3, u4⟩ := c
  have pr : preT B n A T false E u h := ⟨c1, ⟨u2, u3, u0⟩, ⟨c2.1, c2.2.1⟩, c2.2.2, by omega, by omega, fun y => by omega⟩
  refine OK_mono (vX13_told a1 hB c3 u4 u1 pr) (fun r pl => ?_)
  obtain ⟨v, h'⟩ := r
  have pl : posL B n T E u a1 h (bdT R (pT B n false 13)) v h' := pl
  obtain ⟨⟨d1, d2, d3, d4, d5, d6, d7, d8⟩, q⟩ := pl
  have P := pre_frT u2 c1 d1
  have P : (TX B n A h' ∧ semX B n h' E ∧ Od h' ∧ h' 441 17 = T ∧ Tset T ∧ capT h' T 2200 ∧ h' 441 14 = (if false = true then 1 else 0) ∧ h' (T + 3) (-2) = 101) := P
  show frT T (h T 0) h h' ∧ lwT B n A T E (sR (bdT R (pT B n false 13))) h' ∧ (0 ≤ v ∧ v < 2200 ∧ h T 0 ≤ h' T 0) ∧ lwG T E a1 h v h' (bdT R (pT B n false 13))
  refine ⟨d1, ?_⟩
  cases e : bdT R (pT B n false 13) with
  | inl z =>
    rw [e] at q
    exact ⟨⟨P, ⟨d5, d6, d7⟩, q.1, n, by omega, Int.le_refl _, by omega, by have := q.2.1; omega, fun q' e' => by cases e'⟩, ⟨d2, d3, d4⟩, trivial⟩
  | inr x =>
    obtain ⟨t, q1⟩ := x
    rw [e] at q
    obtain ⟨q1', q2, q3, q4, q5, q6, q7, q8, q9⟩ := q
    obtain ⟨q0, e1, e2⟩ := bdT_inr e
    have h0 := pT_h0 13 q0 t q1 e2
    rw [hz] at q6 q7 q8
    have qn := (Sx_inr q1').1.2.2.2
    have fk : FK h' = min (FK h) (keyE E a1 t) := q7
    have st := sz_pos t
    exact ⟨⟨P, ⟨d5, d6, d7⟩, q1', q1, by omega, qn, by omega, by omega, fun q' e' => by cases e'; exact Int.le_refl _⟩, ⟨d2, d3, d4⟩, ⟨q3, d2, by omega, by omega⟩, q6, fk, by rw [(rXc_inf q6).2.2.1]; exact inf_rs E t _, by omega⟩
theorem parX_nm {B : Int → Int} {n : Int} {ns : List (Int × Int)} {h : AH} (nm : nmXl B n ns h) (l : ns.length ≤ 3) (e : h 441 13 = (ns.length : Int)) : parX B n h (ns.length : Int) (fun k => tV B n (nmN ns k).1) (fun k => (nmN ns k).2) := by
  refine ⟨e, by omega, by omega, fun k k0 k1 => ?_⟩
  obtain ⟨p, ep⟩ : ∃ p, ns[k.toNat]? = some p := ⟨ns[k.toNat]'(by omega), List.getElem?_eq_getElem (by omega)⟩
  have en : nmN ns k = p := by unfold nmN; rw [List.getD_eq_getElem?_getD, ep]; rfl
  obtain ⟨⟨n1, n2, n3⟩, n4, n5, n6, n7, n8⟩ := nm k.toNat p ep
  rw [show ((k.toNat : Nat) : Int) = k by omega] at n4 n5 n6
  have T := tok_1 n1
  have S := tS_r (B := B) n3
  show h 444 k = (nmN ns k).2 ∧ -1 ≤ (nmN ns k).2 ∧ (nmN ns k).2 ≤ 2 ∧ ((h 442 k = -1 - k ∧ tV B n (nmN ns k).1 = k + 1) ∨ (0 ≤ h 442 k ∧ 1 ≤ h 443 k - h 442 k ∧ h 443 k - h 442 k ≤ 8 ∧ h 443 k ≤ n ∧ lets B (h 442 k) (h 443 k - h 442 k) ∧ tV B n (nmN ns k).1 = cod B (h 442 k) (h 443 k - h 442 k).toNat))
  rw [en, n4, n5]
  exact ⟨n6, by omega, n8, Or.inr ⟨by omega, T.1, T.2.1, T.2.2.1, T.2.2.2.1, T.2.2.2.2⟩⟩
/-- what reading laws needs -/
def lwS (B : Int → Int) (n A a T : Int) (E : EV) (ks : List Int) (la m : Int) (h : AH) : Prop := TX B n A h ∧ actX h E.1.1 E.1.2.1 E.1.2.2.1 E.1.2.2.2.1 E.1.2.2.2.2 ∧ Od h ∧ (isAk a ∧ h 441 20 = a ∧ T = a + 12) ∧ (h a 1 = (ks.length : Int) ∧ 1 ≤ ks.length ∧ ks.length ≤ 3 ∧ ∀ k, 0 ≤ k → k < (ks.length : Int) → h (a + 1) k = kL ks k) ∧ (h a 2 = la ∧ 0 ≤ la ∧ la ≤ 2) ∧ (h a 11 = m ∧ 0 ≤ m ∧ m ≤ 4) ∧ (h 441 17 = T ∧ h 441 14 = 0 ∧ h 441 16 = 0) ∧ (capT h T 2200 ∧ h (T + 3) (-2) = 101) ∧ f8X h
/-- cells a law's reader may change -/
def lwC (a T b s : Int) : Prop := (b = 441 ∧ ((2 ≤ s ∧ s ≤ 9) ∨ s = 13 ∨ s = 15 ∨ s = 16 ∨ s = 18)) ∨ (442 ≤ b ∧ b ≤ 445 ∧ 0 ≤ s) ∨ (T ≤ b ∧ b ≤ T + 5 ∧ 0 ≤ s) ∨ (b = a ∧ (s = 8 ∨ s = 11)) ∨ (a + 6 ≤ b ∧ b ≤ a + 11 ∧ 0 ≤ s)
theorem lwS_f {B : Int → Int} {n A a T : Int} {E : EV} {ks : List Int} {la m m' : Int} {h h' : AH} (x : lwS B n A a T E ks la m h) (f : ∀ b s, ¬ lwC a T b s → h' b s = h b s) (z : h' 441 16 = 0) (e : h' a 11 = m' ∧ 0 ≤ m' ∧ m' ≤ 4) (g : f8X h') : lwS B n A a T E ks la m' h' := by
  obtain ⟨x1, x2, x3, ⟨x4, x5, x6⟩, ⟨x7, x8, x9, x10⟩, x11, x12, ⟨x13, x14, x15⟩, ⟨x16, x17⟩, x18⟩ := x
  have LA : a = 271 ∨ a = 289 := x4
  have ta := x1.2.2.2.2
  have F : ∀ b s, ¬ ((b = 441 ∧ ((2 ≤ s ∧ s ≤ 9) ∨ s = 13 ∨ s = 15 ∨ s = 16 ∨ s = 18)) ∨ (442 ≤ b ∧ b ≤ 445 ∧ 0 ≤ s) ∨ (T ≤ b ∧ b ≤ T + 5 ∧ 0 ≤ s) ∨ (b = a ∧ (s = 8 ∨ s = 11)) ∨ (a + 6 ≤ b ∧ b ≤ a + 11 ∧ 0 ≤ s)) → h' b s = h b s := f
  refine ⟨TX_fr x1 (F _ _ (by omega)) (F _ _ (by omega)) (fun s => F _ _ (by omega)), actX_fr x2 (fun b s y => F b s (by unfold actC at y; omega)), Od_fr x3 (fun b i b0 b1 => F _ _ (by omega)), ⟨x4, by rw [F _ _ (by omega)]; exact x5, x6⟩, ⟨by rw [F _ _ (by omega)]; exact x7, x8, x9, fun k k0 k1 => by rw [F _ _ (by omega)]; exact x10 k k0 k1⟩, by rw [F _ _ (by omega)]; exact x11, e, ⟨by rw [F _ _ (by omega)]; exact x13, by rw [F _ _ (by omega)]; exact x14, z⟩, ⟨capT_fr x16 (fun c c0 c1 => F _ _ (by omega)), by rw [F _ _ (by omega)]; exact x17⟩, g⟩
/-- a law that is kept -/
def lwkX (B : Int → Int) (n a T : Int) (E : EV) (ks : List Int) (la m : Int) (r : LWt) (h : AH) : Prop := ∃ v w, h (a + 8) m = v ∧ h (a + 9) m = w ∧ (h (a + 10) m = (r.1.length : Int) ∧ r.1.length ≤ 2) ∧ (∀ k, 0 ≤ k → k < (r.1.length : Int) → h (a + 11) (2 * m + k) = (nmN r.1 k).2) ∧ (0 ≤ v ∧ v + sz r.2.1 ≤ h T 0 ∧ 0 ≤ w ∧ w + sz r.2.2 ≤ h T 0) ∧ rXc h T (rsE (EVA B n E ks la r.1) r.2.1 0) v 0 (v + 1) ∧ rXc h T (rsE (EVA B n E ks la r.1) r.2.2 0) w 0 (w + 1)
def frLw (a T m N : Int) (h h' : AH) : Prop := ∀ b s, ¬ (b = 441 ∧ ((2 ≤ s ∧ s ≤ 9) ∨ s = 13 ∨ s = 15 ∨ s = 16 ∨ s = 18)) → ¬ (442 ≤ b ∧ b ≤ 445 ∧ 0 ≤ s) → ¬ (b = T ∧ s = 0) → ¬ (T + 1 ≤ b ∧ b ≤ T + 4 ∧ N ≤ s) → ¬ (b = T + 5 ∧ 3 * N ≤ s) → ¬ (b = a ∧ s = 11) → ¬ (a + 8 ≤ b ∧ b ≤ a + 10 ∧ s = m) → ¬ (b = a + 11 ∧ 2 * m ≤ s ∧ s ≤ 2 * m + 1) → h' b s = h b s
def lwQ (B : Int → Int) (n A a T : Int) (E : EV) (ks : List Int) (la m room N : Int) (K : LWt → Int) (W : Int ⊕ (LWt × Int)) (h : AH) : Prop := match W with
  | .inl z => Sx B n (.inl z) h ∧ f8X h
  | .inr (r, q) => Sx B n (.inr q) h ∧ lwS B n A a T E ks la (m + room) h ∧ rmT B n T (.inr q) h ∧ FK h = K r ∧ ((h 441 13 = 0 ∧ h 441 15 = 0) ∧ N ≤ h T 0) ∧ (room = 1 → lwkX B n a T E ks la m r h)
theorem bdT_bS {R : Int ⊕ Int} {α : Type} {f : Int → PR} {g : TR × Int → Int ⊕ α} : bS R (fun q => bS (f q) g) = bS (bdT R f) g := by cases R <;> rfl
/-- a law's pieces one behind the other -/
theorem pLw_e {B : Int → Int} {n : Int} {ns : List (Int × Int)} {R : Int ⊕ Int} : bS R (pLw B n ns) = bS (bdT (bnd R (pW B n 256)) (pT B n false 13)) fun y => bS (bdT (bnd (.inr y.2) (pW B n 61)) (pT B n false 13)) fun z => bS (bnd (.inr z.2) (pW B n 59)) fun q7 => .inr ((ns, y.1, z.1), q7) := by
  cases R with
  | inl z => rfl
  | inr q2 =>
    show (bS (pW B n 256 q2) fun q3 => bS (pT B n false 13 q3) fun y => bS (pW B n 61 y.2) fun q5 => bS (pT B n false 13 q5) fun z => bS (pW B n 59 z.2) fun q7 => .inr ((ns, y.1, z.1), q7)) = bS (bdT (pW B n 256 q2) (pT B n false 13)) fun y => bS (bdT (pW B n 61 y.2) (pT B n false 13)) fun z => bS (pW B n 59 z.2) fun q7 => .inr ((ns, y.1, z.1), q7)
    rw [← bdT_bS]
    congr 1
    funext q3
    congr 1
    funext y
    rw [← bdT_bS]
theorem bndW_le {B : Int → Int} {n c q' : Int} {R : Int ⊕ Int} (hB : ∀ i, 0 ≤ i → i < n → 0 ≤ B i ∧ B i < 256) {h : AH} (s : Sx B n R h) (e : bnd R (pW B n c) = .inr q') : ∃ q, R = .inr q ∧ q ≤ q' := by
  cases R with
  | inl z => cases e
  | inr q =>
    refine ⟨q, rfl, ?_⟩
    have e2 : pW B n c q = .inr q' := e
    unfold pW at e2
    by_cases g : tO B n q = 4 ∧ tV B n q = c
    · rw [if_pos g] at e2
      obtain ⟨x, y⟩ := Sx_inr s
      have nr := nx_r hB x.2.2.1 x.2.2.2 y (by rw [g.1]; decide) e2
      omega
    · rw [if_neg g] at e2; cases e2
theorem lwT_n {B : Int → Int} {n A T : Int} {E : EV} {R R' : Int ⊕ Int} {h h' : AH} (c : lwT B n A T E R h) (f : ∀ b s, ¬ (b = 441 ∧ 2 ≤ s ∧ s ≤ 7) → h' b s = h b s) (s' : Sx B n R' h') (le : ∀ q', R' = .inr q' → ∃ q, R = .inr q ∧ q ≤ q') : lwT B n A T E R' h' := by
  obtain ⟨⟨c1, ⟨c2, c3, c4⟩, c5, c6, c7, c8, c9, c10⟩, d, _, u, u0, u1, u2, u3, u4⟩ := c
  have ta := c1.2.2.2.2
  have tT : T ≠ 441 := by unfold Tset at c7; omega
  have tT3 : T + 3 ≠ 441 := by unfold Tset at c7; omega
  refine ⟨⟨TX_fr c1 (f _ _ (by omega)) (f _ _ (by omega)) (fun s => f _ _ (by omega)), ⟨actX_fr c2 (fun b s y => f b s (by unfold actC at y; omega)), parX_fr c3 (f _ _ (by omega)) (fun a s a0 a1 => f _ _ (by omega)), askX_fr c4 (f _ _ (by omega)) (f _ _ (by omega)) (fun a s y => f _ _ (by omega))⟩, Od_fr c5 (fun b i b0 b1 => f _ _ (by omega)), by rw [f _ _ (by omega)]; exact c6, c7, capT_fr c8 (fun c c0 c1 => f _ _ (by omega)), by rw [f _ _ (by omega)]; exact c9, by rw [f _ _ (by omega)]; exact c10⟩, f8X_f d (fun s y => f _ _ (by omega)), s', u, u0, u1, by rw [f _ _ (by omega)]; exact u2, by rw [f _ _ (by omega)]; exact u3, fun q' e => ?_⟩
  obtain ⟨q, e1, e2⟩ := le q' e
  have := u4 q e1
  omega
theorem lw_fin {B : Int → Int} {n A a T la m a2 a4 v27 v33 : Int} {E : EV} {ks : List Int} {ns : List (Int × Int)} {R : Int ⊕ Int} {t1 : TR} {P2 : PR} {h h28 h30 h34 y : AH} (hB : ∀ i, 0 ≤ i → i < n → 0 ≤ B i ∧ B i < 256) (st : lwS B n A a T E ks la m h) (ro : (a2 = 0 ∨ a2 = 1) ∧ (a2 = 1 → m < 4)) (nm : nmXl B n ns h ∧ (ns.length : Int) = a4 ∧ a4 ≤ 2)
    (W : bS R (pLw B n ns) = bS P2 fun z => bS (bnd (.inr z.2) (pW B n 59)) fun q7 => .inr ((ns, t1, z.1), q7))
    (hT : h T 0 ≤ h28 T 0) (d : 0 ≤ v27 ∧ h28 T 0 = v27 + sz t1) (d5 : rXc h28 T (rsE (EVA B n E ks la ns) t1 0) v27 0 (v27 + 1)) (d6 : FK h28 = min (FK h) (keyE (EVA B n E ks la ns) (-1) t1))
    (fr3 : ∀ b s, ¬ (b = 441 ∧ 2 ≤ s ∧ s ≤ 7) → h30 b s = h28 b s) (fr4 : frT T (h30 T 0) h30 h34) (lt4 : lwT B n A T (EVA B n E ks la ns) (sR P2) h34) (vv4 : h30 T 0 ≤ h34 T 0) (gd4 : lwG T (EVA B n E ks la ns) (kdE (EVA B n E ks la ns) t1) h30 v33 h34 P2)
    (G34 : ∀ b s, ¬ (b = 441 ∧ ((2 ≤ s ∧ s ≤ 9) ∨ s = 13 ∨ s = 15 ∨ s = 16 ∨ s = 18)) → ¬ (b = 445 ∧ 0 ≤ s) → ¬ (T ≤ b ∧ b ≤ T + 5 ∧ 0 ≤ s) → h34 b s = h b s)
    (sx5 : Sx B n (bnd (sR P2) (pW B n 59)) y) (kp5 : y 441 13 = 0 ∧ y 441 15 = 0 ∧ (y 441 6 = 0 → y a 11 = m + a2 ∧ (a2 = 1 → y (a + 8) m = v27 ∧ y (a + 9) m = v33 ∧ y (a + 10) m = a4 ∧ y (a + 11) (2 * m) = h34 444 0 ∧ y (a + 11) (2 * m + 1) = h34 444 1)))
    (fr5 : ∀ b s, ¬ (b = 441 ∧ ((2 ≤ s ∧ s ≤ 7) ∨ s = 13 ∨ s = 15)) → ¬ (b = a ∧ s = 11) → ¬ (a + 8 ≤ b ∧ b ≤ a + 10 ∧ s = m) → ¬ (b = a + 11 ∧ 2 * m ≤ s ∧ s ≤ 2 * m + 1) → y b s = h34 b s) :
    lwQ B n A a T E ks la m a2 (h T 0) (fun r => min (FK h) (min (keyE (EVA B n E ks la r.1) (-1) r.2.1) (keyE (EVA B n E ks la r.1) (kdE (EVA B n E ks la r.1) r.2.1) r.2.2))) (bS R (pLw B n ns)) y := by
  have LA : a = 271 ∨ a = 289 := st.2.2.2.1.1
  have eT : T = a + 12 := st.2.2.2.1.2.2
  have m4 := st.2.2.2.2.2.2.1
  have s1 := sz_pos t1
  have F8 : f8X y := f8X_f lt4.2.1 (fun s z => fr5 _ _ (by omega) (by omega) (by omega) (by omega))
  rw [W]
  cases e : P2 with
  | inl z => rw [e] at sx5; exact ⟨sx5, F8⟩
  | inr x =>
    obtain ⟨t2, q2⟩ := x
    rw [e] at sx5 gd4
    have s2 := sz_pos t2
    have S5 : Sx B n (pW B n 59 q2) y := sx5
    have RM : rmT B n T (.inr q2) h34 := by have r := lt4.2.2.2; rw [e] at r; exact r
    have S4 : Sx B n (.inr q2) h34 := by have r := lt4.2.2.1; rw [e] at r; exact r
    obtain ⟨⟨g1, g2, g3, g4⟩, g5, g6, g7, g8⟩ := gd4
    show lwQ B n A a T E ks la m a2 _ _ (bS (pW B n 59 q2) fun q7 => .inr ((ns, t1, t2), q7)) y
    cases e7 : pW B n 59 q2 with
    | inl z => rw [e7] at S5; exact ⟨S5, F8⟩
    | inr q7 =>
      rw [e7] at S5
      have b6 : y 441 6 = 0 := (Sx_inr S5).1.1
      obtain ⟨k1, k2, k3⟩ := kp5
      obtain ⟨k4, k5⟩ := k3 b6
      have yT : y T 0 = h34 T 0 := fr5 _ _ (by omega) (by omega) (by omega) (by omega)
      have h3T : h30 T 0 = h28 T 0 := fr3 _ _ (by omega)
      have K3 : FK h30 = FK h28 := FK_fr (fr3 _ _ (by omega)) (fr3 _ _ (by omega))
      have KY : FK y = FK h34 := FK_fr (fr5 _ _ (by omega) (by omega) (by omega) (by omega)) (fr5 _ _ (by omega) (by omega) (by omega) (by omega))
      refine ⟨S5, lwS_f st (fun b s z => ?_) ((fr5 _ _ (by omega) (by omega) (by omega) (by omega)).trans g8) ⟨k4, by omega, by omega⟩ F8, ?_, ?_, ⟨⟨k1, k2⟩, by omega⟩, fun z => ?_⟩
      · have z : ¬ ((b = 441 ∧ ((2 ≤ s ∧ s ≤ 9) ∨ s = 13 ∨ s = 15 ∨ s = 16 ∨ s = 18)) ∨ (442 ≤ b ∧ b ≤ 445 ∧ 0 ≤ s) ∨ (T ≤ b ∧ b ≤ T + 5 ∧ 0 ≤ s) ∨ (b = a ∧ (s = 8 ∨ s = 11)) ∨ (a + 6 ≤ b ∧ b ≤ a + 11 ∧ 0 ≤ s)) := z
        exact (fr5 b s (by omega) (by omega) (by omega) (by omega)).trans (G34 b s (by omega) (by omega) (by omega))
      · obtain ⟨u, u0, u1, u2, u3, u4⟩ := RM
        obtain ⟨q, e1, e2⟩ := bndW_le (R := .inr q2) (c := 59) hB S4 e7
        have u5 := u4 q2 rfl
        cases e1
        exact ⟨u, u0, u1, by omega, by omega, fun q' e' => by cases e'; omega⟩
      · show FK y = min (FK h) (min (keyE (EVA B n E ks la ns) (-1) t1) (keyE (EVA B n E ks la ns) (kdE (EVA B n E ks la ns) t1) t2))
        rw [KY, g6, K3, d6, Int.min_assoc]
      · obtain ⟨w1, w2, w3, w4, w5⟩ := k5 z
        have Z0 : h34 444 0 = h 444 0 := G34 _ _ (by omega) (by omega) (by omega)
        have Z1 : h34 444 1 = h 444 1 := G34 _ _ (by omega) (by omega) (by omega)
        refine ⟨v27, v33, w1, w2, ⟨w3.trans nm.2.1.symm, by show ns.length ≤ 2; omega⟩, fun k k0 k1 => ?_, ⟨d.1, (show v27 + sz t1 ≤ y T 0 by omega), g2, (show v33 + sz t2 ≤ y T 0 by omega)⟩, ?_, ?_⟩
        · have k1 : k < (ns.length : Int) := k1
          obtain ⟨p, ep⟩ : ∃ p, ns[k.toNat]? = some p := ⟨ns[k.toNat]'(by omega), List.getElem?_eq_getElem (by omega)⟩
          have en : nmN ns k = p := by unfold nmN; rw [List.getD_eq_getElem?_getD, ep]; rfl
          have n6 := (nm.1 k.toNat p ep).2.2.2.1
          rw [show ((k.toNat : Nat) : Int) = k by omega] at n6
          show y (a + 11) (2 * m + k) = (nmN ns k).2
          rw [en, ← n6]
          rcases (show k = 0 ∨ k = 1 by omega) with y0 | y0
          · rw [y0, show 2 * m + 0 = 2 * m by omega, w4, Z0]
          · rw [y0, w5, Z1]
        · refine rXc_g (N := h28 T 0) (h := h28) d.1 (show v27 + sz t1 ≤ h28 T 0 by omega) (fun b s b0 b1 s0 s1 => ?_) (fun s s0 s1 => ?_) d5
          · rw [fr5 b s (by omega) (by omega) (by omega) (by omega), fr4 b s (by omega) (by omega) (by omega) (by omega) (by omega), fr3 b s (by omega)]
          · rw [fr5 _ s (by omega) (by omega) (by omega) (by omega), fr4 _ s (by omega) (by omega) (by omega) (by omega) (by omega), fr3 _ s (by omega)]
        · refine rXc_g (N := h34 T 0) (h := h34) g2 (show v33 + sz t2 ≤ h34 T 0 by omega) (fun b s b0 b1 s0 s1 => ?_) (fun s s0 s1 => ?_) g5
          · exact fr5 b s (by omega) (by omega) (by omega) (by omega)
          · exact fr5 _ s (by omega) (by omega) (by omega) (by omega)
theorem fr_l1 {b s : Int} (y1 : ¬ (b = 441 ∧ ((2 ≤ s ∧ s ≤ 9) ∨ s = 13 ∨ s = 15 ∨ s = 16 ∨ s = 18))) : ¬ (b = 441 ∧ ((2 ≤ s ∧ s ≤ 7) ∨ s = 13 ∨ s = 15)) := by omega
theorem fr_l2 {b s : Int} (y1 : ¬ (b = 441 ∧ ((2 ≤ s ∧ s ≤ 9) ∨ s = 13 ∨ s = 15 ∨ s = 16 ∨ s = 18))) : ¬ (b = 441 ∧ 2 ≤ s ∧ s ≤ 7) := by omega
theorem frT_l {T N N' : Int} {h h' : AH} (N0 : 0 ≤ N) (f : frT T N' h h') (le : N ≤ N') : ∀ b s, ¬ (b = 441 ∧ ((2 ≤ s ∧ s ≤ 9) ∨ s = 13 ∨ s = 15 ∨ s = 16 ∨ s = 18)) → ¬ (442 ≤ b ∧ b ≤ 445 ∧ 0 ≤ s) → ¬ (b = T ∧ s = 0) → ¬ (T + 1 ≤ b ∧ b ≤ T + 4 ∧ N ≤ s) → ¬ (b = T + 5 ∧ 3 * N ≤ s) → h' b s = h b s := fun b s y1 y2 y3 y4 y5 => f b s (by omega) (by omega) y3 (by omega) (by omega)
theorem isX3_T {T : Int} (t : Tset T) : isX3 T := by unfold Tset at t; unfold isX3; omega
theorem vX13_law_j323 (a2 : Int) (a4 : Int) {h : AH} {B : Int → Int} {n A a T la m : Int} {E : EV} {ks : List Int} {ns : List (Int × Int)} {R : Int ⊕ Int} (hB : ∀ i, 0 ≤ i → i < n → 0 ≤ B i ∧ B i < 256) (st : lwS B n A a T E ks la m h) (sx : Sx B n R h) (rm : rmT B n T R h) (nm : nmXl B n ns h ∧ (ns.length : Int) = a4 ∧ a4 ≤ 2) (ro : (a2 = 0 ∨ a2 = 1) ∧ (a2 = 1 → m < 4)) : OK (gX13_law_j323 a2 a4 h) (fun h' => (lwQ B n A a T E ks la m a2 (h T 0) (fun r => min (FK h) (min (keyE (EVA B n E ks la r.1) (-1) r.2.1) (keyE (EVA B n E ks la r.1) (kdE (EVA B n E ks la r.1) r.2.1) r.2.2))) (bS R (pLw B n ns)) h') ∧ (frLw a T m (h T 0) h h')) := by
  obtain ⟨x1, x2, x3, ⟨x4, x5, x6⟩, ⟨x7, x8, x9, x10⟩, x11, x12, ⟨x13, x14, x15⟩, ⟨x16, x17⟩, x18⟩ := id st
  have LA : a = 271 ∨ a = 289 := x4
  have ta := x1.2.2.2.2
  have TS : Tset T := by { unfold Tset; omega }
  replace ro : id ((a2 = 0 ∨ a2 = 1) ∧ (a2 = 1 → m < 4)) := ro
  obtain ⟨u, u0, u1, u2, u3, u4⟩ := rm
  unfold gX13_law_j323
  refine OK_jb (vX13_wantB (B := B) (n := n) (A := A) _ (by exact x1) (by exact hB) (by exact sx) (by exact Or.inl ⟨rfl, rfl⟩)) (fun h23 r1 => ?_)
  try dsimp only [Sum.elim_inl, Sum.elim_inr, jt2, jt3, jt4, jt5, jt6, jt7, jt8] at r1
  obtain ⟨sx1, fr1, br1⟩ := r1
  try simp (disch := omega) only [jst_eq, jst_ne, jst_ni, jI_i, jcmp_lt, jcmp_gt, w32_id, jcpy_out, Sum.elim_inl, Sum.elim_inr, jt2, jt3, jt4, jt5, jt6, jt7, jt8] at sx1
  try simp (disch := omega) only [jst_eq, jst_ne, jst_ni, jI_i, jcmp_lt, jcmp_gt, w32_id, jcpy_out, Sum.elim_inl, Sum.elim_inr, jt2, jt3, jt4, jt5, jt6, jt7, jt8] at fr1
  try simp (disch := omega) only [jst_eq, jst_ne, jst_ni, jI_i, jcmp_lt, jcmp_gt, w32_id, jcpy_out, Sum.elim_inl, Sum.elim_inr, jt2, jt3, jt4, jt5, jt6, jt7, jt8] at br1
  refine OK_jl ?_
  have F24 : ∀ b s, ¬ (b = 441 ∧ s = 13) → jst h23 441 13 a4 b s = h23 b s := fun b s y => jst_o y
  have V24 : jst h23 441 13 a4 441 13 = a4 := jst_eq
  generalize jst h23 441 13 a4 = g24 at *
  refine OK_jl ?_
  have F25 : ∀ b s, ¬ (b = 441 ∧ s = 15) → jst g24 441 15 1 b s = g24 b s := fun b s y => jst_o y
  have V25 : jst g24 441 15 1 441 15 = 1 := jst_eq
  generalize jst g24 441 15 1 = g25 at *
  have G25 : ∀ b s, ¬ (b = 441 ∧ ((2 ≤ s ∧ s ≤ 7) ∨ s = 13 ∨ s = 15)) → g25 b s = h b s := fun b s y => (F25 b s (by omega)).trans ((F24 b s (by omega)).trans (fr1 b s (by omega)))
  obtain ⟨R1, eR1⟩ : ∃ R1, R1 = bnd R (pW B n 256) := ⟨_, rfl⟩
  have S25 : Sx B n R1 g25 := by { rw [eR1]; exact Sx_fr sx1 (fun s s0 s1 => (F25 _ _ (by omega)).trans (F24 _ _ (by omega))) }
  have NM : nmXl B n ns g25 := fun k p ep => by { rw [G25 442 k (by omega), G25 443 k (by omega), G25 444 k (by omega)]; exact nm.1 k p ep }
  have PX : parX B n g25 (EVA B n E ks la ns).2.1.1 (EVA B n E ks la ns).2.1.2.1 (EVA B n E ks la ns).2.1.2.2 := parX_nm NM (by omega) (by rw [F25 _ _ (by omega), V24]; exact nm.2.1.symm)
  have AX : askX g25 (EVA B n E ks la ns) := ⟨V25, Or.inr rfl, fun _ => ⟨by rw [G25 441 20 (by omega), x5]; exact x4, by rw [G25 441 20 (by omega), x5, G25 a 1 (by omega)]; exact x7, by rw [G25 441 20 (by omega), x5, G25 a 2 (by omega)]; exact x11.1, by (show (1 : Int) ≤ (ks.length : Int); omega), by (show (ks.length : Int) ≤ 3; omega), x11.2.1, x11.2.2, fun k k0 k1 => by rw [G25 441 20 (by omega), x5, G25 (a + 1) k (by omega)]; exact x10 k k0 k1⟩⟩
  have F8 : f8X g25 := f8X_f x18 (fun s y => G25 _ _ (by omega))
  have K25 : FK g25 = FK h := FK_fr (G25 _ _ (by omega)) (G25 _ _ (by omega))
  have TE : g25 T 0 = h T 0 := G25 _ _ (by omega)
  have LT : lwT B n A T (EVA B n E ks la ns) R1 g25 := ⟨⟨TX_fr x1 (G25 _ _ (by omega)) (G25 _ _ (by omega)) (fun s => G25 _ _ (by omega)), ⟨actX_fr x2 (fun b s y => G25 b s (by unfold actC at y; omega)), PX, AX⟩, Od_fr x3 (fun b i b0 b1 => G25 _ _ (by omega)), by rw [G25 _ _ (by omega)]; exact x13, TS, capT_fr x16 (fun c c0 c1 => G25 _ _ (by omega)), by rw [G25 _ _ (by omega)]; exact x14, by rw [G25 _ _ (by omega)]; exact x17⟩, F8, S25, u, u0, u1, by omega, by omega, fun q e => by { obtain ⟨q0, e1, e2⟩ := bndW_le hB sx (by rw [← eR1]; exact e); have w := u4 q0 e1; omega }⟩
  refine OK_jb2 (vX13_toldL (B := B) (n := n) (A := A) (T := T) (E := EVA B n E ks la ns) _ (by exact hB) (by exact LT) (by (rw [G25 _ _ (by omega)]; exact x15))) (fun v27 h28 r2 => ?_)
  try dsimp only [Sum.elim_inl, Sum.elim_inr, jt2, jt3, jt4, jt5, jt6, jt7, jt8] at r2
  obtain ⟨fr2, lt2, vv2, gd2⟩ := r2
  try simp (disch := omega) only [jst_eq, jst_ne, jst_ni, jI_i, jcmp_lt, jcmp_gt, w32_id, jcpy_out, Sum.elim_inl, Sum.elim_inr, jt2, jt3, jt4, jt5, jt6, jt7, jt8] at fr2
  try simp (disch := omega) only [jst_eq, jst_ne, jst_ni, jI_i, jcmp_lt, jcmp_gt, w32_id, jcpy_out, Sum.elim_inl, Sum.elim_inr, jt2, jt3, jt4, jt5, jt6, jt7, jt8] at lt2
  try simp (disch := omega) only [jst_eq, jst_ne, jst_ni, jI_i, jcmp_lt, jcmp_gt, w32_id, jcpy_out, Sum.elim_inl, Sum.elim_inr, jt2, jt3, jt4, jt5, jt6, jt7, jt8] at vv2
  try simp (disch := omega) only [jst_eq, jst_ne, jst_ni, jI_i, jcmp_lt, jcmp_gt, w32_id, jcpy_out, Sum.elim_inl, Sum.elim_inr, jt2, jt3, jt4, jt5, jt6, jt7, jt8] at gd2
  obtain ⟨P1, eP1⟩ : ∃ P1, P1 = bdT R1 (pT B n false 13) := ⟨_, rfl⟩
  rw [← eP1] at lt2 gd2
  refine OK_jb (vX13_wantB (B := B) (n := n) (A := A) _ (by exact lt2.1.1) (by exact hB) (by exact lt2.2.2.1) (by exact Or.inr ⟨by unfold sgn; omega, rfl⟩)) (fun h30 r3 => ?_)
  try dsimp only [Sum.elim_inl, Sum.elim_inr, jt2, jt3, jt4, jt5, jt6, jt7, jt8] at r3
  obtain ⟨sx3, fr3, br3⟩ := r3
  try simp (disch := omega) only [jst_eq, jst_ne, jst_ni, jI_i, jcmp_lt, jcmp_gt, w32_id, jcpy_out, Sum.elim_inl, Sum.elim_inr, jt2, jt3, jt4, jt5, jt6, jt7, jt8] at sx3
  try simp (disch := omega) only [jst_eq, jst_ne, jst_ni, jI_i, jcmp_lt, jcmp_gt, w32_id, jcpy_out, Sum.elim_inl, Sum.elim_inr, jt2, jt3, jt4, jt5, jt6, jt7, jt8] at fr3
  try simp (disch := omega) only [jst_eq, jst_ne, jst_ni, jI_i, jcmp_lt, jcmp_gt, w32_id, jcpy_out, Sum.elim_inl, Sum.elim_inr, jt2, jt3, jt4, jt5, jt6, jt7, jt8] at br3
  have E17 : h30 441 17 = T := by { rw [fr3 _ _ (by omega)]; exact lt2.1.2.2.2.1 }
  have TT : T = T ∧ 0 ≤ h30 T 0 ∧ h30 T 0 = h28 T 0 := by { have e : h30 T 0 = h28 T 0 := fr3 _ _ (by omega); refine ⟨rfl, ?_, e⟩; rw [e]; exact Int.le_trans (by omega) vv2.2.2 }
  have G28 : ∀ b s, ¬ (b = 441 ∧ ((2 ≤ s ∧ s ≤ 9) ∨ s = 13 ∨ s = 15 ∨ s = 16 ∨ s = 18)) → ¬ (b = 445 ∧ 0 ≤ s) → ¬ (T ≤ b ∧ b ≤ T + 5 ∧ 0 ≤ s) → h30 b s = h b s := fun b s y1 y2 y3 => (fr3 b s (by omega)).trans ((frT_q TS (by omega) fr2 ⟨by omega, y2, y3⟩).trans (G25 b s (by omega)))
  have L28 : ∀ b s, ¬ (b = 441 ∧ ((2 ≤ s ∧ s ≤ 9) ∨ s = 13 ∨ s = 15 ∨ s = 16 ∨ s = 18)) → ¬ (442 ≤ b ∧ b ≤ 445 ∧ 0 ≤ s) → ¬ (b = T ∧ s = 0) → ¬ (T + 1 ≤ b ∧ b ≤ T + 4 ∧ h T 0 ≤ s) → ¬ (b = T + 5 ∧ 3 * h T 0 ≤ s) → h30 b s = h b s := fun b s y1 y2 y3 y4 y5 => (fr3 b s (fr_l2 y1)).trans ((frT_l (N := h T 0) u2 fr2 (Int.le_of_eq TE.symm) b s y1 y2 y3 y4 y5).trans (G25 b s (fr_l1 y1)))
  refine OK_if (fun c1 => ?_) (fun c1 => ?_)
  · skip
    try simp (disch := omega) only [jst_eq, jst_ne, jst_ni, jI_i, jcmp_lt, jcmp_gt, w32_id, jcpy_out, Sum.elim_inl, Sum.elim_inr, jt2, jt3, jt4, jt5, jt6, jt7, jt8] at c1
    obtain ⟨t1, q1, eP⟩ : ∃ t q, P1 = .inr (t, q) := by { cases e : P1 with | inl z => (have := br3 ⟨z, by rw [e]; rfl⟩; omega) | inr x => first | exact ⟨x.1, x.2, rfl⟩ | exact ⟨x.1, x.2, e⟩ }
    obtain ⟨⟨d1, d2, d3, d4⟩, d5, d6, d7, d8⟩ : lwG T (EVA B n E ks la ns) (-1) g25 v27 h28 (.inr (t1, q1)) := by { rw [← eP]; exact gd2 }
    have s1 := sz_pos t1
    obtain ⟨R3, eR3⟩ : ∃ R3, R3 = bnd (sR P1) (pW B n 61) := ⟨_, rfl⟩
    rw [← eR3] at sx3
    have LT3 : lwT B n A T (EVA B n E ks la ns) R3 h30 := lwT_n lt2 fr3 sx3 (fun q' e => bndW_le hB lt2.2.2.1 (by rw [← eR3]; exact e))
    have CP : h30 (T + 3) (-1) = 2200 := LT3.1.2.2.2.2.2.1.2.2.1
    have K30 : h30 (T + 3) v27 = kdE (EVA B n E ks la ns) t1 := by { rw [fr3 _ _ (by omega)]; exact d7 }
    rw [E17, CP, K30]
    refine OK_jg (by (first | ((unfold isX3; omega)) | (first | assumption | omega | ((try dsimp only [jt2, jt3, jt4]); first | omega | (simp (disch := omega) only [jst_eq, jst_ne, jst_ni, jst_o, jI_i, jcpy_out, w32_id, jdiv_nn, jshr_k, jand_255] <;> first | done | omega | assumption)) | (intros; simp (disch := omega) only [jst_eq, jst_ne, jst_ni, jst_o, jI_i, jcpy_out, w32_id, jdiv_nn, *] <;> first | done | omega) | (intros; simp (disch := omega) only [jst_eq, jst_ne, jst_ni, jst_o, jI_i, jcpy_out, w32_id, jdiv_nn] at * <;> first | done | omega | assumption) | (intros; first | rfl | (exfalso; omega) | ((repeat' apply And.intro) <;> first | assumption | rfl | omega | trivial))))) ?_ -- o12
    refine OK_jg (by (first | ((unfold isX3; omega)) | (first | assumption | omega | ((try dsimp only [jt2, jt3, jt4]); first | omega | (simp (disch := omega) only [jst_eq, jst_ne, jst_ni, jst_o, jI_i, jcpy_out, w32_id, jdiv_nn, jshr_k, jand_255] <;> first | done | omega | assumption)) | (intros; simp (disch := omega) only [jst_eq, jst_ne, jst_ni, jst_o, jI_i, jcpy_out, w32_id, jdiv_nn, *] <;> first | done | omega) | (intros; simp (disch := omega) only [jst_eq, jst_ne, jst_ni, jst_o, jI_i, jcpy_out, w32_id, jdiv_nn] at * <;> first | done | omega | assumption) | (intros; first | rfl | (exfalso; omega) | ((repeat' apply And.intro) <;> first | assumption | rfl | omega | trivial))))) ?_ -- o13
    refine OK_jb2 (vX13_toldL (B := B) (n := n) (A := A) (T := T) (E := EVA B n E ks la ns) _ (by exact hB) (by exact LT3) (by (rw [fr3 _ _ (by omega)]; exact d8))) (fun v33 h34 r4 => ?_)
    try dsimp only [Sum.elim_inl, Sum.elim_inr, jt2, jt3, jt4, jt5, jt6, jt7, jt8] at r4
    obtain ⟨fr4, lt4, vv4, gd4⟩ := r4
    try simp (disch := omega) only [jst_eq, jst_ne, jst_ni, jI_i, jcmp_lt, jcmp_gt, w32_id, jcpy_out, Sum.elim_inl, Sum.elim_inr, jt2, jt3, jt4, jt5, jt6, jt7, jt8] at fr4
    try simp (disch := omega) only [jst_eq, jst_ne, jst_ni, jI_i, jcmp_lt, jcmp_gt, w32_id, jcpy_out, Sum.elim_inl, Sum.elim_inr, jt2, jt3, jt4, jt5, jt6, jt7, jt8] at lt4
    try simp (disch := omega) only [jst_eq, jst_ne, jst_ni, jI_i, jcmp_lt, jcmp_gt, w32_id, jcpy_out, Sum.elim_inl, Sum.elim_inr, jt2, jt3, jt4, jt5, jt6, jt7, jt8] at vv4
    try simp (disch := omega) only [jst_eq, jst_ne, jst_ni, jI_i, jcmp_lt, jcmp_gt, w32_id, jcpy_out, Sum.elim_inl, Sum.elim_inr, jt2, jt3, jt4, jt5, jt6, jt7, jt8] at gd4
    obtain ⟨P2, eP2⟩ : ∃ P2, P2 = bdT R3 (pT B n false 13) := ⟨_, rfl⟩
    rw [← eP2] at lt4 gd4
    have G34 : ∀ b s, ¬ (b = 441 ∧ ((2 ≤ s ∧ s ≤ 9) ∨ s = 13 ∨ s = 15 ∨ s = 16 ∨ s = 18)) → ¬ (b = 445 ∧ 0 ≤ s) → ¬ (T ≤ b ∧ b ≤ T + 5 ∧ 0 ≤ s) → h34 b s = h b s := fun b s y1 y2 y3 => (frT_q TS TT.2.1 fr4 ⟨by omega, y2, y3⟩).trans (G28 b s y1 y2 y3)
    have WW : bS R (pLw B n ns) = bS P2 fun z => bS (bnd (.inr z.2) (pW B n 59)) fun q7 => .inr ((ns, t1, z.1), q7) := by { rw [pLw_e, ← eR1, ← eP1, eP, eP2, eR3, eP]; rfl }
    refine OK_mono (vX13_law_j378 (B := B) (n := n) (A := A) (a := a) (m := m) _ _ _ _ (by exact lt4.1.1) (by exact hB) (by exact lt4.2.2.1) (by exact ⟨x4, (G34 _ _ (by omega) (by omega) (by omega)).trans x5, (G34 _ _ (by omega) (by omega) (by omega)).trans x12.1, x12.2⟩) (by exact ro)) (fun r r5 => ?_)
    try dsimp only [Sum.elim_inl, Sum.elim_inr, jt2, jt3, jt4, jt5, jt6, jt7, jt8] at r5
    obtain ⟨sx5, kp5, fr5⟩ := r5
    try simp (disch := omega) only [jst_eq, jst_ne, jst_ni, jI_i, jcmp_lt, jcmp_gt, w32_id, jcpy_out, Sum.elim_inl, Sum.elim_inr, jt2, jt3, jt4, jt5, jt6, jt7, jt8] at sx5
    try simp (disch := omega) only [jst_eq, jst_ne, jst_ni, jI_i, jcmp_lt, jcmp_gt, w32_id, jcpy_out, Sum.elim_inl, Sum.elim_inr, jt2, jt3, jt4, jt5, jt6, jt7, jt8] at kp5
    try simp (disch := omega) only [jst_eq, jst_ne, jst_ni, jI_i, jcmp_lt, jcmp_gt, w32_id, jcpy_out, Sum.elim_inl, Sum.elim_inr, jt2, jt3, jt4, jt5, jt6, jt7, jt8] at fr5
    try dsimp only [Sum.elim_inl, Sum.elim_inr, jt2, jt3, jt4, jt5, jt6, jt7, jt8]
    try dsimp only [Sum.elim_inl, Sum.elim_inr, jt2, jt3, jt4, jt5, jt6, jt7, jt8]
    refine ⟨?_, ?_⟩
    · exact lw_fin hB st ro nm WW (by omega) ⟨d2, d3⟩ d5 (by rw [d6, K25]) fr3 fr4 lt4 vv4.2.2 gd4 G34 sx5 kp5 fr5 -- o22 e1.1
    · exact fun b s y1 y2 y3 y4 y5 y6 y7 y8 => (fr5 b s (fr_l1 y1) y6 y7 y8).trans ((frT_l (N := h T 0) u2 fr4 (by rw [TT.2.2]; omega) b s y1 y2 y3 y4 y5).trans (L28 b s y1 y2 y3 y4 y5)) -- o23 e1.2
  · skip
    try simp (disch := omega) only [jst_eq, jst_ne, jst_ni, jI_i, jcmp_lt, jcmp_gt, w32_id, jcpy_out, Sum.elim_inl, Sum.elim_inr, jt2, jt3, jt4, jt5, jt6, jt7, jt8] at c1
    obtain ⟨z3, e3⟩ := Sx_br sx3 c1
    have WW : bS R (pLw B n ns) = .inl (h30 441 7) := by { rw [pLw_e, ← eR1, ← eP1]; cases e : P1 with | inl z => (rw [e] at e3; exact congrArg Sum.inl (Sum.inl.inj e3)) | inr x => (rw [e] at e3; have e4 : bnd (.inr x.2) (pW B n 61) = .inl (h30 441 7) := e3; show bS (bdT (bnd (.inr x.2) (pW B n 61)) (pT B n false 13)) _ = _; rw [e4]; rfl) }
    refine OK_mono (vX13_law_j378 (B := B) (n := n) (A := A) (a := a) (m := m) _ _ _ _ (by exact TX_fr lt2.1.1 (fr3 _ _ (by omega)) (fr3 _ _ (by omega)) (fun s => fr3 _ _ (by omega))) (by exact hB) (by (rw [e3] at sx3; exact sx3)) (by exact ⟨x4, (G28 _ _ (by omega) (by omega) (by omega)).trans x5, (G28 _ _ (by omega) (by omega) (by omega)).trans x12.1, x12.2⟩) (by exact ro)) (fun r r6 => ?_)
    try dsimp only [Sum.elim_inl, Sum.elim_inr, jt2, jt3, jt4, jt5, jt6, jt7, jt8] at r6
    obtain ⟨sx6, kp6, fr6⟩ := r6
    try simp (disch := omega) only [jst_eq, jst_ne, jst_ni, jI_i, jcmp_lt, jcmp_gt, w32_id, jcpy_out, Sum.elim_inl, Sum.elim_inr, jt2, jt3, jt4, jt5, jt6, jt7, jt8] at sx6
    try simp (disch := omega) only [jst_eq, jst_ne, jst_ni, jI_i, jcmp_lt, jcmp_gt, w32_id, jcpy_out, Sum.elim_inl, Sum.elim_inr, jt2, jt3, jt4, jt5, jt6, jt7, jt8] at kp6
    try simp (disch := omega) only [jst_eq, jst_ne, jst_ni, jI_i, jcmp_lt, jcmp_gt, w32_id, jcpy_out, Sum.elim_inl, Sum.elim_inr, jt2, jt3, jt4, jt5, jt6, jt7, jt8] at fr6
    try dsimp only [Sum.elim_inl, Sum.elim_inr, jt2, jt3, jt4, jt5, jt6, jt7, jt8]
    try dsimp only [Sum.elim_inl, Sum.elim_inr, jt2, jt3, jt4, jt5, jt6, jt7, jt8]
    refine ⟨?_, ?_⟩
    · (rw [WW]; exact ⟨sx6, f8X_f lt2.2.1 (fun s y => (fr6 _ _ (by omega) (by omega) (by omega) (by omega)).trans (fr3 _ _ (by omega)))⟩) -- o29 e2.1
    · exact fun b s y1 y2 y3 y4 y5 y6 y7 y8 => (fr6 b s (fr_l1 y1) y6 y7 y8).trans (L28 b s y1 y2 y3 y4 y5) -- o30 e2.2

