/-! x: all runs of a loop; a run told; least and greatest values -/
theorem rwT_b2 {kf : Int → Int} : ∀ {m : Nat}, m ≤ 2 → (∀ k : Nat, k < m → 0 ≤ kf k ∧ kf k ≤ 1) → (1 ≤ rwT kf m ∧ rwT kf m ≤ 16 ^ m) ∧ ∀ k : Nat, k + 1 = m → rwT kf m = rwT kf k * bsK (kf k)
  | 0, _, _ => ⟨by show (1 : Int) ≤ 1 ∧ (1 : Int) ≤ 16 ^ 0; decide, fun k e => by omega⟩
  | m + 1, l, h => by
    have ih := (rwT_b2 (kf := kf) (m := m) (by omega) (fun k kl => h k (by omega))).1
    have q := h m (by omega)
    have p : (16 : Int) ^ m ≤ 16 := by rcases (show m = 0 ∨ m = 1 by omega) with rfl | rfl <;> decide
    have e : rwT kf (m + 1) = rwT kf m * bsK (kf m) := by
      show (if kf m = 2 then 100000 else min 100000 (rwT kf m * bsK (kf m))) = _
      rw [if_neg (by omega)]
      rcases bsK_c (kf m) with z | z <;> rw [z] <;> omega
    refine ⟨?_, fun k ek => ?_⟩
    · rw [e, Int.pow_succ]
      rcases bsK_c (kf m) with z | z <;> rw [z] <;> omega
    · rw [show k = m by omega]; exact e
theorem vX8_many_l4 (i0 : Int) (a10 : Int) (a20 : Int) {h : AH} {n : Int} {kf : Int → Int} (hx : h i0 1 = n ∧ 1 ≤ n ∧ n ≤ 2) (hk : ∀ k, 0 ≤ k → k < n → h (i0 + 1) k = kf k ∧ 0 ≤ kf k ∧ kf k ≤ 1) (h1 : a10 = 1 ∧ a20 = 0) : OK (gX8_many_l4 i0 a10 a20 h) (fun r => r = rwT kf n.toNat) := by
  unfold gX8_many_l4
  refine OK_jit (I := (fun (s : Int × Int) => jt2 s fun a1 a2 => (0 ≤ a2 ∧ a2 ≤ n) ∧ (a1 = rwT kf a2.toNat))) (m := (fun (s : Int × Int) => jt2 s fun a1 a2 => (n - a2).toNat)) ?_ ?_
  · intro s hs
    obtain ⟨a1, a2⟩ := s
    dsimp only [Sum.elim_inl, Sum.elim_inr, jt2, jt3, jt4, jt5, jt6, jt7, jt8] at hs
    obtain ⟨q0, q1⟩ := hs
    unfold gX8_many_b4
    refine OK_jt2 ?_
    have E1 := hx.1
    refine OK_if (fun c1 => ?_) (fun c1 => ?_)
    · skip
      try simp (disch := omega) only [jst_eq, jst_ne, jst_ni, jI_i, jcmp_lt, jcmp_gt, w32_id, jcpy_out, Sum.elim_inl, Sum.elim_inr, jt2, jt3, jt4, jt5, jt6, jt7, jt8] at c1
      refine OK_ir ?_
      (rw [q1, show a2.toNat = n.toNat by omega]) -- o1 e1
    · skip
      try simp (disch := omega) only [jst_eq, jst_ne, jst_ni, jI_i, jcmp_lt, jcmp_gt, w32_id, jcpy_out, Sum.elim_inl, Sum.elim_inr, jt2, jt3, jt4, jt5, jt6, jt7, jt8] at c1
      have K2 := hk a2 q0.1 (by omega)
      rw [K2.1]
      have R2 := rwT_b2 (kf := kf) (m := a2.toNat + 1) (by omega) (fun k kl => (hk k (by omega) (by omega)).2)
      have R3 := R2.2 a2.toNat rfl
      rw [show ((a2.toNat : Nat) : Int) = a2 by omega] at R3
      have P2 : (16 : Int) ^ (a2.toNat + 1) ≤ 256 := by { rcases (show a2.toNat = 0 ∨ a2.toNat = 1 by omega) with e | e <;> rw [e] <;> decide }
      refine OK_jg (by (first | assumption | omega | ((try dsimp only [jt2, jt3, jt4]); first | omega | (simp (disch := omega) only [jst_eq, jst_ne, jst_ni, jst_o, jI_i, jcpy_out, w32_id, jdiv_nn, jshr_k, jand_255] <;> first | done | omega | assumption)) | (intros; simp (disch := omega) only [jst_eq, jst_ne, jst_ni, jst_o, jI_i, jcpy_out, w32_id, jdiv_nn, *] <;> first | done | omega) | (intros; simp (disch := omega) only [jst_eq, jst_ne, jst_ni, jst_o, jI_i, jcpy_out, w32_id, jdiv_nn] at * <;> first | done | omega | assumption) | (intros; first | rfl | (exfalso; omega) | ((repeat' apply And.intro) <;> first | assumption | rfl | omega | trivial)))) ?_ -- o2
      refine OK_jb (vX4_valuesOf _) (fun v5 r1 => ?_)
      try dsimp only [Sum.elim_inl, Sum.elim_inr, jt2, jt3, jt4, jt5, jt6, jt7, jt8] at r1
      have bv1 := r1
      clear r1
      try simp (disch := omega) only [jst_eq, jst_ne, jst_ni, jI_i, jcmp_lt, jcmp_gt, w32_id, jcpy_out, Sum.elim_inl, Sum.elim_inr, jt2, jt3, jt4, jt5, jt6, jt7, jt8] at bv1
      have V5 : v5 = bsK (kf a2) := by assumption
      have W1 : w32 (a1 * v5) = rwT kf (a2.toNat + 1) := by { rw [q1, V5, ← R3, w32_id (by omega) (by omega)] }
      rw [W1]
      refine OK_jlx (fun x6 ex6 => ?_)
      try simp (disch := omega) only [jst_eq, jst_ne, jst_ni, jI_i, jcmp_lt, jcmp_gt, w32_id, jcpy_out, Sum.elim_inl, Sum.elim_inr, jt2, jt3, jt4, jt5, jt6, jt7, jt8] at ex6
      refine OK_jlx (fun x7 ex7 => ?_)
      try simp (disch := omega) only [jst_eq, jst_ne, jst_ni, jI_i, jcmp_lt, jcmp_gt, w32_id, jcpy_out, Sum.elim_inl, Sum.elim_inr, jt2, jt3, jt4, jt5, jt6, jt7, jt8] at ex7
      refine OK_il ?_ ?_
      · try dsimp only [Sum.elim_inl, Sum.elim_inr, jt2, jt3, jt4, jt5, jt6, jt7, jt8]
        refine ⟨?_, ?_⟩
        · (first | assumption | omega | ((try dsimp only [jt2, jt3, jt4]); first | omega | (simp (disch := omega) only [jst_eq, jst_ne, jst_ni, jst_o, jI_i, jcpy_out, w32_id, jdiv_nn, jshr_k, jand_255] <;> first | done | omega | assumption)) | (intros; simp (disch := omega) only [jst_eq, jst_ne, jst_ni, jst_o, jI_i, jcpy_out, w32_id, jdiv_nn, *] <;> first | done | omega) | (intros; simp (disch := omega) only [jst_eq, jst_ne, jst_ni, jst_o, jI_i, jcpy_out, w32_id, jdiv_nn] at * <;> first | done | omega | assumption) | (intros; first | rfl | (exfalso; omega) | ((repeat' apply And.intro) <;> first | assumption | rfl | omega | trivial))) -- o3 e2i.1
        · (rw [ex6, show x7.toNat = a2.toNat + 1 by omega]) -- o4 e2i.2
      · (first | assumption | omega | ((try dsimp only [jt2, jt3, jt4]); first | omega | (simp (disch := omega) only [jst_eq, jst_ne, jst_ni, jst_o, jI_i, jcpy_out, w32_id, jdiv_nn, jshr_k, jand_255] <;> first | done | omega | assumption)) | (intros; simp (disch := omega) only [jst_eq, jst_ne, jst_ni, jst_o, jI_i, jcpy_out, w32_id, jdiv_nn, *] <;> first | done | omega) | (intros; simp (disch := omega) only [jst_eq, jst_ne, jst_ni, jst_o, jI_i, jcpy_out, w32_id, jdiv_nn] at * <;> first | done | omega | assumption) | (intros; first | rfl | (exfalso; omega) | ((repeat' apply And.intro) <;> first | assumption | rfl | omega | trivial))) -- o5 e2m
  · try dsimp only [Sum.elim_inl, Sum.elim_inr, jt2, jt3, jt4, jt5, jt6, jt7, jt8]
    refine ⟨?_, ?_⟩
    · (first | assumption | omega | ((try dsimp only [jt2, jt3, jt4]); first | omega | (simp (disch := omega) only [jst_eq, jst_ne, jst_ni, jst_o, jI_i, jcpy_out, w32_id, jdiv_nn, jshr_k, jand_255] <;> first | done | omega | assumption)) | (intros; simp (disch := omega) only [jst_eq, jst_ne, jst_ni, jst_o, jI_i, jcpy_out, w32_id, jdiv_nn, *] <;> first | done | omega) | (intros; simp (disch := omega) only [jst_eq, jst_ne, jst_ni, jst_o, jI_i, jcpy_out, w32_id, jdiv_nn] at * <;> first | done | omega | assumption) | (intros; first | rfl | (exfalso; omega) | ((repeat' apply And.intro) <;> first | assumption | rfl | omega | trivial))) -- o6 init.1
    · (rw [h1.1, h1.2]; rfl) -- o7 init.2
theorem vX8_many (a0 : Int) {h : AH} {n : Int} {kf : Int → Int} (hx : h a0 1 = n ∧ 1 ≤ n ∧ n ≤ 2) (hk : ∀ k, 0 ≤ k → k < n → h (a0 + 1) k = kf k ∧ 0 ≤ kf k ∧ kf k ≤ 1) : OK (gX8_many a0 h) (fun r => r = rwT kf n.toNat) := by
  unfold gX8_many
  refine OK_jb (vX8_many_l4 (n := n) (kf := kf) _ _ _ (by exact hx) (by (first | assumption | omega | ((try dsimp only [jt2, jt3, jt4]); first | omega | (simp (disch := omega) only [jst_eq, jst_ne, jst_ni, jst_o, jI_i, jcpy_out, w32_id, jdiv_nn, jshr_k, jand_255] <;> first | done | omega | assumption)) | (intros; simp (disch := omega) only [jst_eq, jst_ne, jst_ni, jst_o, jI_i, jcpy_out, w32_id, jdiv_nn, *] <;> first | done | omega) | (intros; simp (disch := omega) only [jst_eq, jst_ne, jst_ni, jst_o, jI_i, jcpy_out, w32_id, jdiv_nn] at * <;> first | done | omega | assumption) | (intros; first | rfl | (exfalso; omega) | ((repeat' apply And.intro) <;> first | assumption | rfl | omega | trivial)))) (by exact ⟨rfl, rfl⟩)) (fun o1 r1 => ?_)
  try dsimp only [Sum.elim_inl, Sum.elim_inr, jt2, jt3, jt4, jt5, jt6, jt7, jt8] at r1
  have v1 := r1
  clear r1
  try simp (disch := omega) only [jst_eq, jst_ne, jst_ni, jI_i, jcmp_lt, jcmp_gt, w32_id, jcpy_out, Sum.elim_inl, Sum.elim_inr, jt2, jt3, jt4, jt5, jt6, jt7, jt8] at v1
  refine OK_some ?_
  try dsimp only [Sum.elim_inl, Sum.elim_inr, jt2, jt3, jt4, jt5, jt6, jt7, jt8]
  (first | assumption | omega | ((try dsimp only [jt2, jt3, jt4]); first | omega | (simp (disch := omega) only [jst_eq, jst_ne, jst_ni, jst_o, jI_i, jcpy_out, w32_id, jdiv_nn, jshr_k, jand_255] <;> first | done | omega | assumption)) | (intros; simp (disch := omega) only [jst_eq, jst_ne, jst_ni, jst_o, jI_i, jcpy_out, w32_id, jdiv_nn, *] <;> first | done | omega) | (intros; simp (disch := omega) only [jst_eq, jst_ne, jst_ni, jst_o, jI_i, jcpy_out, w32_id, jdiv_nn] at * <;> first | done | omega | assumption) | (intros; first | rfl | (exfalso; omega) | ((repeat' apply And.intro) <;> first | assumption | rfl | omega | trivial))) -- o4 e1
theorem vX1_beginRuns {h : AH} (hk : h 404 (-2) = 101 ∧ h 404 (-1) = 4096) : OK (gX1_beginRuns h) (fun h' => ∀ a s, h' a s = if a = 404 ∧ 0 ≤ s ∧ s < 4096 then 0 else h a s) := by
  unfold gX1_beginRuns
  refine OK_jb (vJ6_fill_3 _ _ (by (first | assumption | omega | ((try dsimp only [jt2, jt3, jt4]); first | omega | (simp (disch := omega) only [jst_eq, jst_ne, jst_ni, jst_o, jI_i, jcpy_out, w32_id, jdiv_nn, jshr_k, jand_255] <;> first | done | omega | assumption)) | (intros; simp (disch := omega) only [jst_eq, jst_ne, jst_ni, jst_o, jI_i, jcpy_out, w32_id, jdiv_nn, *] <;> first | done | omega) | (intros; simp (disch := omega) only [jst_eq, jst_ne, jst_ni, jst_o, jI_i, jcpy_out, w32_id, jdiv_nn] at * <;> first | done | omega | assumption) | (intros; first | rfl | (exfalso; omega) | ((repeat' apply And.intro) <;> first | assumption | rfl | omega | trivial)))) (by decide) (by (rw [hk.2]; decide))) (fun h2 r1 => ?_)
  try dsimp only [Sum.elim_inl, Sum.elim_inr, jt2, jt3, jt4, jt5, jt6, jt7, jt8] at r1
  have v1 := r1
  clear r1
  try simp (disch := omega) only [jst_eq, jst_ne, jst_ni, jI_i, jcmp_lt, jcmp_gt, w32_id, jcpy_out, Sum.elim_inl, Sum.elim_inr, jt2, jt3, jt4, jt5, jt6, jt7, jt8] at v1
  refine OK_some ?_
  try dsimp only [Sum.elim_inl, Sum.elim_inr, jt2, jt3, jt4, jt5, jt6, jt7, jt8]
  (intro a s; rw [v1, hk.2]) -- o4 e1
theorem RN_b {E : EV} {W : Int → Int → Int → VW} {L : LE} {i how met giv : Int} (ac : acE E) (w : wTy E W) (v : vLE E L) (i0 : 0 ≤ i) (r : RN W L i how met giv) : 0 ≤ met ∧ met ≤ 4097 := by
  obtain ⟨j, p, e⟩ := r
  have jb : j ≤ 4096 := by
    by_cases y : j = 0
    · omega
    · obtain ⟨k, rfl⟩ : ∃ k, j = k + 1 := ⟨j - 1, by omega⟩
      have q := p k (by omega)
      have := ps_lt ac w v i0 (j := k) (fun r l => p r (by omega)) q.1 q.2.2
      omega
  rcases e with e | e | e | e
  · have := e.2.2.1; omega
  · have := e.2.2.2.1; omega
  · have := e.2.2.2.2.1; omega
  · have := e.2.2.2.2.2; omega
theorem HS_len {E : EV} {W : Int → Int → Int → VW} {L : LE} (ac : acE E) (w : wTy E W) (v : vLE E L) : ∀ {i : Nat} {l : List (Int → Int)}, HS W L i l → l.length ≤ 4097 * i
  | 0, _, a => by rw [show _ = [] from a]; exact Nat.le_refl _
  | i + 1, _, a => by
    obtain ⟨h, m, g, l, r, s, e⟩ := a
    have b := RN_b ac w v (by omega) r
    have c := HS_len ac w v s
    rw [e, List.length_append, mtL_len]
    omega
theorem HS_sub {W : Int → Int → Int → VW} {L : LE} : ∀ {n : Nat} {l : List (Int → Int)}, HS W L n l → ∀ i : Nat, i < n → ∀ how met giv, RN W L i how met giv → ∀ s, s ∈ mtL W L i met.toNat → s ∈ l
  | 0, _, _, i, h, _, _, _, _, _, _ => absurd h (Nat.not_lt_zero i)
  | n + 1, _, a, i, hi, how, met, giv, r, s, m => by
    obtain ⟨h, m', g, l, r', s', e⟩ := a
    rw [e]
    by_cases y : i = n
    · subst y
      rw [(RN_u r r').2.1] at m
      exact List.mem_append_left _ m
    · exact List.mem_append_right _ (HS_sub s' i (by omega) how met giv r s m)
theorem lsR_m {k : Int} : ∀ {l : List (Int → Int)} {s : Int → Int}, s ∈ l → lsR k l ≤ s k ∧ s k ≤ gtR k l
  | [], _, m => by cases m
  | t :: l, s, m => by
    show min (lsR k l) (t k) ≤ s k ∧ s k ≤ max (gtR k l) (t k)
    rcases List.mem_cons.mp m with y | y
    · rw [y]; omega
    · have := lsR_m (k := k) y; omega
theorem lsR_sub {k : Int} {H : List (Int → Int)} : ∀ {a : List (Int → Int)}, (∀ s, s ∈ a → s ∈ H) → lsR k (a ++ H) = lsR k H ∧ gtR k (a ++ H) = gtR k H ∧ cntR (a ++ H) = cntR H
  | [], _ => ⟨rfl, rfl, rfl⟩
  | t :: a, h => by
    have ih := lsR_sub (k := k) (H := H) (a := a) (fun s m => h s (List.mem_cons_of_mem _ m))
    have q := lsR_m (k := k) (h t List.mem_cons_self)
    refine ⟨?_, ?_, ?_⟩
    · show min (lsR k (a ++ H)) (t k) = _
      rw [ih.1]; omega
    · show max (gtR k (a ++ H)) (t k) = _
      rw [ih.2.1]; omega
    · show cif (t ∈ a ++ H) (cntR (a ++ H)) (cntR (a ++ H) + 1) = _
      rw [cif_y (List.mem_append_right _ (h t List.mem_cons_self))]
      exact ih.2.2
theorem snX_sub {h : AH} {L : LE} {a H : List (Int → Int)} (s : snX h L (a ++ H)) (m : ∀ s, s ∈ a → s ∈ H) : snX h L H := by
  obtain ⟨s1, s2, s3, s4⟩ := s
  refine ⟨fun s q => s1 s (List.mem_append_right _ q), fun p p0 p1 => ⟨(s2 p p0 p1).1, fun e => ?_⟩, by rw [s3]; exact (lsR_sub (k := 0) m).2.2, fun k k0 k1 => ?_⟩
  · obtain ⟨t, t1, t2⟩ := (s2 p p0 p1).2 e
    rcases List.mem_append.mp t1 with y | y
    · exact ⟨t, m t y, t2⟩
    · exact ⟨t, y, t2⟩
  · have q := s4 k k0 k1
    have r := lsR_sub (k := k) m
    refine ⟨?_, by rw [q.2]; exact r.2.1⟩
    rw [q.1, r.1]
    by_cases y : H = []
    · have ya : a = [] := by
        cases a with
        | nil => rfl
        | cons t a => have z := m t List.mem_cons_self; rw [y] at z; cases z
      rw [y, ya]; rfl
    · rw [if_neg y, if_neg (fun z => y (List.append_eq_nil_iff.mp z).2)]
def kl2 (h : AH) : Prop := (h (h 200 39 + 12) (-2) = 101 ∧ h (h 200 39 + 12) (-1) = 3) ∧ (h 404 (-2) = 101 ∧ h 404 (-1) = 4096) ∧ h 405 (-2) = 104 ∧ h 405 (-1) = 4096
/-- all runs: how many inputs -/
def inN (L : LE) : Int := rwT L.1.2 L.1.1.toNat
theorem inN_b {E : EV} {L : LE} (v : vLE E L) : 1 ≤ inN L ∧ inN L ≤ 256 := by
  have n2 := v.1
  have r := (rwT_b2 (kf := L.1.2) (m := L.1.1.toNat) (by omega) (fun k kl => n2.2.2 k (by omega) (by omega))).1
  have p : (16 : Int) ^ L.1.1.toNat ≤ 256 := by rcases (show L.1.1.toNat = 1 ∨ L.1.1.toNat = 2 by omega) with e | e <;> rw [e] <;> decide
  unfold inN
  omega
theorem vX1_lookAtLoop_l44 (a10 : Int) {h0 : AH} {E : EV} {Rf : Int → TR} {W : Int → Int → Int → VW} {hl : Int → Int} {L : LE} (rn : rnX h0 E Rf W hl L) (se : snX h0 L []) (mk : ∀ p, 0 ≤ p → p < 4096 → h0 404 p = 0) (h1 : a10 = 0) : OK (gX1_lookAtLoop_l44 a10 h0) (fun h' => (∃ H, HS W L (inN L).toNat H ∧ snX h' L H) ∧ (frG h0 h') ∧ (bd10 h')) := by
  have v := rn.2.2.2
  have n2 := v.1
  have IB := inN_b v
  unfold gX1_lookAtLoop_l44
  refine OK_jit (I := (fun (s : Int × AH) => jt2 s fun a1 h => (0 ≤ a1 ∧ a1 ≤ inN L) ∧ (∃ H, HS W L a1.toNat H ∧ snX h L H) ∧ (∀ p, 0 ≤ p → p < 4096 → h 404 p ≤ a1) ∧ (frG h0 h) ∧ (bd10 h))) (m := (fun (s : Int × AH) => jt2 s fun a1 h => (inN L - a1).toNat)) ?_ ?_
  · intro s hs
    obtain ⟨a1, h⟩ := s
    dsimp only [Sum.elim_inl, Sum.elim_inr, jt2, jt3, jt4, jt5, jt6, jt7, jt8] at hs
    obtain ⟨q0, q1, q2, fr, bb⟩ := hs
    unfold gX1_lookAtLoop_b44
    refine OK_jt2 ?_
    have RN2 : rnX h E Rf W hl L := rnX_f rn bb fr
    have LX := rnX_x RN2
    have AW := rnX_a RN2
    obtain ⟨H, H1, H2⟩ := q1
    have HL := HS_len AW.1 AW.2 v H1
    refine OK_jb (vX8_many (n := L.1.1) (kf := L.1.2) _ (by exact ⟨RN2.2.1.2.1, n2.1, n2.2.1⟩) (by exact fun k k0 k1 => ⟨RN2.2.1.2.2.2.1 k k0 k1, n2.2.2 k k0 k1⟩)) (fun v13 r1 => ?_)
    try dsimp only [Sum.elim_inl, Sum.elim_inr, jt2, jt3, jt4, jt5, jt6, jt7, jt8] at r1
    have v1 := r1
    clear r1
    try simp (disch := omega) only [jst_eq, jst_ne, jst_ni, jI_i, jcmp_lt, jcmp_gt, w32_id, jcpy_out, Sum.elim_inl, Sum.elim_inr, jt2, jt3, jt4, jt5, jt6, jt7, jt8] at v1
    have V13 : v13 = inN L := by assumption
    refine OK_if (fun c1 => ?_) (fun c1 => ?_)
    · skip
      try simp (disch := omega) only [jst_eq, jst_ne, jst_ni, jI_i, jcmp_lt, jcmp_gt, w32_id, jcpy_out, Sum.elim_inl, Sum.elim_inr, jt2, jt3, jt4, jt5, jt6, jt7, jt8] at c1
      refine OK_ir ?_
      try dsimp only [Sum.elim_inl, Sum.elim_inr, jt2, jt3, jt4, jt5, jt6, jt7, jt8]
      refine ⟨?_, ?_, ?_⟩
      · (rw [show (inN L).toNat = a1.toNat by omega]; exact ⟨H, H1, H2⟩) -- o3 e1.1
      · (first | assumption | omega | ((try dsimp only [jt2, jt3, jt4]); first | omega | (simp (disch := omega) only [jst_eq, jst_ne, jst_ni, jst_o, jI_i, jcpy_out, w32_id, jdiv_nn, jshr_k, jand_255] <;> first | done | omega | assumption)) | (intros; simp (disch := omega) only [jst_eq, jst_ne, jst_ni, jst_o, jI_i, jcpy_out, w32_id, jdiv_nn, *] <;> first | done | omega) | (intros; simp (disch := omega) only [jst_eq, jst_ne, jst_ni, jst_o, jI_i, jcpy_out, w32_id, jdiv_nn] at * <;> first | done | omega | assumption) | (intros; first | rfl | (exfalso; omega) | ((repeat' apply And.intro) <;> first | assumption | rfl | omega | trivial))) -- o4 e1.2
      · (first | assumption | omega | ((try dsimp only [jt2, jt3, jt4]); first | omega | (simp (disch := omega) only [jst_eq, jst_ne, jst_ni, jst_o, jI_i, jcpy_out, w32_id, jdiv_nn, jshr_k, jand_255] <;> first | done | omega | assumption)) | (intros; simp (disch := omega) only [jst_eq, jst_ne, jst_ni, jst_o, jI_i, jcpy_out, w32_id, jdiv_nn, *] <;> first | done | omega) | (intros; simp (disch := omega) only [jst_eq, jst_ne, jst_ni, jst_o, jI_i, jcpy_out, w32_id, jdiv_nn] at * <;> first | done | omega | assumption) | (intros; first | rfl | (exfalso; omega) | ((repeat' apply And.intro) <;> first | assumption | rfl | omega | trivial))) -- o5 e1.3
    · skip
      try simp (disch := omega) only [jst_eq, jst_ne, jst_ni, jI_i, jcmp_lt, jcmp_gt, w32_id, jcpy_out, Sum.elim_inl, Sum.elim_inr, jt2, jt3, jt4, jt5, jt6, jt7, jt8] at c1
      refine OK_jb (vX1_goThrough (E := E) (Rf := Rf) (W := W) (hl := hl) (L := L) (H := H) (T := .leaf (0, 0, 0, 0)) _ _ _ (by exact RN2) (by omega) (by exact Or.inl ⟨rfl, by omega⟩) (by exact fun p p0 p1 e => by have := q2 p p0 p1; omega) (by exact fun _ => H2)) (fun h16 r2 => ?_)
      try dsimp only [Sum.elim_inl, Sum.elim_inr, jt2, jt3, jt4, jt5, jt6, jt7, jt8] at r2
      obtain ⟨rr2, md2, mk2, fr2, bb2⟩ := r2
      try simp (disch := omega) only [jst_eq, jst_ne, jst_ni, jI_i, jcmp_lt, jcmp_gt, w32_id, jcpy_out, Sum.elim_inl, Sum.elim_inr, jt2, jt3, jt4, jt5, jt6, jt7, jt8] at rr2
      try simp (disch := omega) only [jst_eq, jst_ne, jst_ni, jI_i, jcmp_lt, jcmp_gt, w32_id, jcpy_out, Sum.elim_inl, Sum.elim_inr, jt2, jt3, jt4, jt5, jt6, jt7, jt8] at md2
      try simp (disch := omega) only [jst_eq, jst_ne, jst_ni, jI_i, jcmp_lt, jcmp_gt, w32_id, jcpy_out, Sum.elim_inl, Sum.elim_inr, jt2, jt3, jt4, jt5, jt6, jt7, jt8] at mk2
      try simp (disch := omega) only [jst_eq, jst_ne, jst_ni, jI_i, jcmp_lt, jcmp_gt, w32_id, jcpy_out, Sum.elim_inl, Sum.elim_inr, jt2, jt3, jt4, jt5, jt6, jt7, jt8] at fr2
      try simp (disch := omega) only [jst_eq, jst_ne, jst_ni, jI_i, jcmp_lt, jcmp_gt, w32_id, jcpy_out, Sum.elim_inl, Sum.elim_inr, jt2, jt3, jt4, jt5, jt6, jt7, jt8] at bb2
      refine OK_jlx (fun x17 ex17 => ?_)
      try simp (disch := omega) only [jst_eq, jst_ne, jst_ni, jI_i, jcmp_lt, jcmp_gt, w32_id, jcpy_out, Sum.elim_inl, Sum.elim_inr, jt2, jt3, jt4, jt5, jt6, jt7, jt8] at ex17
      refine OK_il ?_ ?_
      · try dsimp only [Sum.elim_inl, Sum.elim_inr, jt2, jt3, jt4, jt5, jt6, jt7, jt8]
        refine ⟨?_, ?_, ?_, ?_, ?_⟩
        · (first | assumption | omega | ((try dsimp only [jt2, jt3, jt4]); first | omega | (simp (disch := omega) only [jst_eq, jst_ne, jst_ni, jst_o, jI_i, jcpy_out, w32_id, jdiv_nn, jshr_k, jand_255] <;> first | done | omega | assumption)) | (intros; simp (disch := omega) only [jst_eq, jst_ne, jst_ni, jst_o, jI_i, jcpy_out, w32_id, jdiv_nn, *] <;> first | done | omega) | (intros; simp (disch := omega) only [jst_eq, jst_ne, jst_ni, jst_o, jI_i, jcpy_out, w32_id, jdiv_nn] at * <;> first | done | omega | assumption) | (intros; first | rfl | (exfalso; omega) | ((repeat' apply And.intro) <;> first | assumption | rfl | omega | trivial))) -- o11 e2i.1
        · (have md := md2.resolve_right (fun z => by have := z.1; omega); refine ⟨mtL W L a1 (h16 200 46).toNat ++ H, ?_, md.2⟩; rw [show x17.toNat = a1.toNat + 1 by omega]; exact ⟨_, _, _, H, by rw [show ((a1.toNat : Nat) : Int) = a1 by omega]; exact rr2.1, H1, by rw [show ((a1.toNat : Nat) : Int) = a1 by omega]⟩) -- o12 e2i.2
        · (intro p p0 p1; rcases mk2 p with z | z; { omega }; { have := q2 p p0 p1; omega }) -- o13 e2i.3
        · exact frG_t fr fr2 -- o14 e2i.4
        · exact bb2 -- o15 e2i.5
      · (first | assumption | omega | ((try dsimp only [jt2, jt3, jt4]); first | omega | (simp (disch := omega) only [jst_eq, jst_ne, jst_ni, jst_o, jI_i, jcpy_out, w32_id, jdiv_nn, jshr_k, jand_255] <;> first | done | omega | assumption)) | (intros; simp (disch := omega) only [jst_eq, jst_ne, jst_ni, jst_o, jI_i, jcpy_out, w32_id, jdiv_nn, *] <;> first | done | omega) | (intros; simp (disch := omega) only [jst_eq, jst_ne, jst_ni, jst_o, jI_i, jcpy_out, w32_id, jdiv_nn] at * <;> first | done | omega | assumption) | (intros; first | rfl | (exfalso; omega) | ((repeat' apply And.intro) <;> first | assumption | rfl | omega | trivial))) -- o16 e2m
  · try dsimp only [Sum.elim_inl, Sum.elim_inr, jt2, jt3, jt4, jt5, jt6, jt7, jt8]
    refine ⟨?_, ?_, ?_, ?_, ?_⟩
    · (first | assumption | omega | ((try dsimp only [jt2, jt3, jt4]); first | omega | (simp (disch := omega) only [jst_eq, jst_ne, jst_ni, jst_o, jI_i, jcpy_out, w32_id, jdiv_nn, jshr_k, jand_255] <;> first | done | omega | assumption)) | (intros; simp (disch := omega) only [jst_eq, jst_ne, jst_ni, jst_o, jI_i, jcpy_out, w32_id, jdiv_nn, *] <;> first | done | omega) | (intros; simp (disch := omega) only [jst_eq, jst_ne, jst_ni, jst_o, jI_i, jcpy_out, w32_id, jdiv_nn] at * <;> first | done | omega | assumption) | (intros; first | rfl | (exfalso; omega) | ((repeat' apply And.intro) <;> first | assumption | rfl | omega | trivial))) -- o17 init.1
    · (rw [h1]; exact ⟨[], rfl, se⟩) -- o18 init.2
    · (intro p p0 p1; rw [mk p p0 p1, h1]; exact Int.le_refl _) -- o19 init.3
    · exact frG_r -- o20 init.4
    · exact rn.1.2.2.2.2 -- o21 init.5
theorem vX1_lookAtLoop {h : AH} {E : EV} {Rf : Int → TR} {W : Int → Int → Int → VW} {hl : Int → Int} {L : LE} (rn : rnX h E Rf W hl L) (kl : kl2 h) : OK (gX1_lookAtLoop h) (fun h' => (∃ H, HS W L (inN L).toNat H ∧ snX h' L H) ∧ (frG h h') ∧ (bd10 h')) := by
  have LX := rnX_x rn
  have B0 : bd10 h := rn.1.2.2.2.2
  have k11 := rn.2.2.1.2.2
  obtain ⟨k12, k4, k5⟩ := kl
  unfold gX1_lookAtLoop
  refine OK_jl ?_
  have F1 : ∀ a s, ¬ (a = h 200 39 ∧ s = 10) → jst h (h 200 39) 10 0 a s = h a s := fun a s y => jst_o y
  have X1 : jst h (h 200 39) 10 0 200 39 = h 200 39 := F1 _ _ (by omega)
  have T1 : jst h (h 200 39) 10 0 (h 200 39) 10 = 0 := jst_eq
  rw [X1]
  generalize jst h (h 200 39) 10 0 = g1 at *
  refine OK_jb (vJ6_fill_3 _ _ (by (rw [F1 _ _ (by omega)]; exact k11.1)) (by omega) (by (rw [F1 _ _ (by omega), k11.2]; decide))) (fun h3 r1 => ?_)
  try dsimp only [Sum.elim_inl, Sum.elim_inr, jt2, jt3, jt4, jt5, jt6, jt7, jt8] at r1
  have v1 := r1
  clear r1
  try simp (disch := omega) only [jst_eq, jst_ne, jst_ni, jI_i, jcmp_lt, jcmp_gt, w32_id, jcpy_out, Sum.elim_inl, Sum.elim_inr, jt2, jt3, jt4, jt5, jt6, jt7, jt8] at v1
  rw [F1 (h 200 39 + 11) (-1) (by omega), k11.2] at v1
  have X3 : h3 200 39 = h 200 39 := by { rw [v1, if_neg (by omega)]; exact X1 }
  rw [X3]
  refine OK_jb (vJ6_fill_3 _ _ (by (rw [v1, if_neg (by omega), F1 _ _ (by omega)]; exact k12.1)) (by omega) (by (rw [v1, if_neg (by omega), F1 _ _ (by omega), k12.2]; decide))) (fun h5 r2 => ?_)
  try dsimp only [Sum.elim_inl, Sum.elim_inr, jt2, jt3, jt4, jt5, jt6, jt7, jt8] at r2
  have v2 := r2
  clear r2
  try simp (disch := omega) only [jst_eq, jst_ne, jst_ni, jI_i, jcmp_lt, jcmp_gt, w32_id, jcpy_out, Sum.elim_inl, Sum.elim_inr, jt2, jt3, jt4, jt5, jt6, jt7, jt8] at v2
  rw [v1, if_neg (by omega), F1 (h 200 39 + 12) (-1) (by omega), k12.2] at v2
  refine OK_jb (vJ6_fill_4 _ _ (by (rw [v2, if_neg (by omega), v1, if_neg (by omega), F1 _ _ (by omega)]; exact k5.1)) (by decide) (by (rw [v2, if_neg (by omega), v1, if_neg (by omega), F1 _ _ (by omega), k5.2]; decide))) (fun h7 r3 => ?_)
  try dsimp only [Sum.elim_inl, Sum.elim_inr, jt2, jt3, jt4, jt5, jt6, jt7, jt8] at r3
  have v3 := r3
  clear r3
  try simp (disch := omega) only [jst_eq, jst_ne, jst_ni, jI_i, jcmp_lt, jcmp_gt, w32_id, jcpy_out, Sum.elim_inl, Sum.elim_inr, jt2, jt3, jt4, jt5, jt6, jt7, jt8] at v3
  rw [v2, if_neg (by omega), v1, if_neg (by omega), F1 405 (-1) (by omega), k5.2, ji2z_0] at v3
  refine OK_jb (vX1_beginRuns (by (rw [v3, v3, if_neg (by omega), if_neg (by omega), v2, v2, if_neg (by omega), if_neg (by omega), v1, v1, if_neg (by omega), if_neg (by omega), F1 _ _ (by omega), F1 _ _ (by omega)]; exact k4))) (fun h9 r4 => ?_)
  try dsimp only [Sum.elim_inl, Sum.elim_inr, jt2, jt3, jt4, jt5, jt6, jt7, jt8] at r4
  have v4 := r4
  clear r4
  try simp (disch := omega) only [jst_eq, jst_ne, jst_ni, jI_i, jcmp_lt, jcmp_gt, w32_id, jcpy_out, Sum.elim_inl, Sum.elim_inr, jt2, jt3, jt4, jt5, jt6, jt7, jt8] at v4
  have A9 : ∀ a s, h9 a s = if a = 404 ∧ 0 ≤ s ∧ s < 4096 then 0 else if a = 405 ∧ 0 ≤ s ∧ s < 4096 then 0 else if a = h 200 39 + 12 ∧ 0 ≤ s ∧ s < 3 then -1 else if a = h 200 39 + 11 ∧ 0 ≤ s ∧ s < 3 then -1 else g1 a s := fun a s => by { rw [v4, v3, v2, v1] }
  have G9 : frG h h9 := fun a s y1 y2 y3 y4 => by { rw [A9, if_neg (by omega), if_neg (by omega), if_neg (by omega), if_neg (by omega)]; exact F1 a s (by omega) }
  have X9 : h9 200 39 = h 200 39 := G9 _ _ (by omega) (by omega) (by omega) (by omega)
  have B9 : bd10 h9 := by { unfold bd10; rw [A9, if_neg (by omega), if_neg (by omega), if_neg (by omega), if_neg (by omega), F1 _ _ (by omega)]; exact B0 }
  refine OK_jb (vX1_lookAtLoop_l44 (E := E) (Rf := Rf) (W := W) (hl := hl) (L := L) _ (by exact rnX_f rn B9 G9) (by (have n3 := rn.2.2.2.2.1; refine ⟨fun s m => (by cases m), fun p p0 p1 => ?_, ?_, fun k k0 k1 => ?_⟩; { rw [A9, if_neg (by omega), if_pos (by omega)]; exact ⟨Or.inl rfl, fun z => by omega⟩ }; { rw [X9, A9, if_neg (by omega), if_neg (by omega), if_neg (by omega), if_neg (by omega)]; exact T1 }; { rw [X9, A9, if_neg (by omega), if_neg (by omega), if_neg (by omega), if_pos (by omega), if_pos rfl, A9, if_neg (by omega), if_neg (by omega), if_pos (by omega)]; exact ⟨rfl, rfl⟩ })) (by exact fun p p0 p1 => by rw [A9, if_pos (by omega)]) (by rfl)) (fun o10 r5 => ?_)
  try dsimp only [Sum.elim_inl, Sum.elim_inr, jt2, jt3, jt4, jt5, jt6, jt7, jt8] at r5
  obtain ⟨q15, fr5, bb5⟩ := r5
  try simp (disch := omega) only [jst_eq, jst_ne, jst_ni, jI_i, jcmp_lt, jcmp_gt, w32_id, jcpy_out, Sum.elim_inl, Sum.elim_inr, jt2, jt3, jt4, jt5, jt6, jt7, jt8] at q15
  try simp (disch := omega) only [jst_eq, jst_ne, jst_ni, jI_i, jcmp_lt, jcmp_gt, w32_id, jcpy_out, Sum.elim_inl, Sum.elim_inr, jt2, jt3, jt4, jt5, jt6, jt7, jt8] at fr5
  try simp (disch := omega) only [jst_eq, jst_ne, jst_ni, jI_i, jcmp_lt, jcmp_gt, w32_id, jcpy_out, Sum.elim_inl, Sum.elim_inr, jt2, jt3, jt4, jt5, jt6, jt7, jt8] at bb5
  have F10 : frG h9 o10 := by assumption
  refine OK_some ?_
  try dsimp only [Sum.elim_inl, Sum.elim_inr, jt2, jt3, jt4, jt5, jt6, jt7, jt8]
  try dsimp only [Sum.elim_inl, Sum.elim_inr, jt2, jt3, jt4, jt5, jt6, jt7, jt8]
  refine ⟨?_, ?_, ?_⟩
  · (first | assumption | omega | ((try dsimp only [jt2, jt3, jt4]); first | omega | (simp (disch := omega) only [jst_eq, jst_ne, jst_ni, jst_o, jI_i, jcpy_out, w32_id, jdiv_nn, jshr_k, jand_255] <;> first | done | omega | assumption)) | (intros; simp (disch := omega) only [jst_eq, jst_ne, jst_ni, jst_o, jI_i, jcpy_out, w32_id, jdiv_nn, *] <;> first | done | omega) | (intros; simp (disch := omega) only [jst_eq, jst_ne, jst_ni, jst_o, jI_i, jcpy_out, w32_id, jdiv_nn] at * <;> first | done | omega | assumption) | (intros; first | rfl | (exfalso; omega) | ((repeat' apply And.intro) <;> first | assumption | rfl | omega | trivial))) -- o15 e1.1
  · exact frG_t G9 F10 -- o16 e1.2
  · (first | assumption | omega | ((try dsimp only [jt2, jt3, jt4]); first | omega | (simp (disch := omega) only [jst_eq, jst_ne, jst_ni, jst_o, jI_i, jcpy_out, w32_id, jdiv_nn, jshr_k, jand_255] <;> first | done | omega | assumption)) | (intros; simp (disch := omega) only [jst_eq, jst_ne, jst_ni, jst_o, jI_i, jcpy_out, w32_id, jdiv_nn, *] <;> first | done | omega) | (intros; simp (disch := omega) only [jst_eq, jst_ne, jst_ni, jst_o, jI_i, jcpy_out, w32_id, jdiv_nn] at * <;> first | done | omega | assumption) | (intros; first | rfl | (exfalso; omega) | ((repeat' apply And.intro) <;> first | assumption | rfl | omega | trivial))) -- o17 e1.3
/-- a loop that is there, and what was seen of it -/
def lpX (h : AH) (E : EV) (Rf : Int → TR) (W : Int → Int → Int → VW) (hl : Int → Int) (L : LE) (H : List (Int → Int)) : Prop := rnX h E Rf W hl L ∧ HS W L (inN L).toNat H ∧ snX h L H ∧ kl2 h
def runV (how met giv w : Int) : Int := if w = 0 then how else if w = 1 then met else if how = 1 then giv else -1
theorem vX1_runs (a1 : Int) (a2 : Int) {h : AH} {E : EV} {Rf : Int → TR} {W : Int → Int → Int → VW} {hl : Int → Int} {L : LE} {H : List (Int → Int)} (hd : h 200 53 = 0 ∨ h 200 53 = 1) (hx : h 200 39 = 378 ∨ h 200 39 = 391) (ht : h (h 200 39) 9 = 0 ∨ (h (h 200 39) 9 = 1 ∧ lpX h E Rf W hl L H)) : OK (gX1_runs a1 a2 h) (fun r => jt2 r fun v h' => ((h 200 53 = 1 ∧ v = -5 ∧ h' = h) ∨ (h 200 53 = 0 ∧ ((h (h 200 39) 9 = 0 ∧ v = -2 ∧ h' = h) ∨ (h (h 200 39) 9 = 1 ∧ ((¬ ((0 ≤ a1 ∧ a1 < inN L) ∧ 0 ≤ a2 ∧ a2 ≤ 2) ∧ v = -1 ∧ h' = h) ∨ (((0 ≤ a1 ∧ a1 < inN L) ∧ 0 ≤ a2 ∧ a2 ≤ 2) ∧ lpX h' E Rf W hl L H ∧ ∃ how met giv, RN W L a1 how met giv ∧ v = runV how met giv a2)))))) ∧ (frG h h')) := by
  unfold gX1_runs
  refine OK_if (fun c1 => ?_) (fun c1 => ?_)
  · skip
    try simp (disch := omega) only [jst_eq, jst_ne, jst_ni, jI_i, jcmp_lt, jcmp_gt, w32_id, jcpy_out, Sum.elim_inl, Sum.elim_inr, jt2, jt3, jt4, jt5, jt6, jt7, jt8] at c1
    refine OK_if (fun c2 => ?_) (fun c2 => ?_)
    · skip
      try simp (disch := omega) only [jst_eq, jst_ne, jst_ni, jI_i, jcmp_lt, jcmp_gt, w32_id, jcpy_out, Sum.elim_inl, Sum.elim_inr, jt2, jt3, jt4, jt5, jt6, jt7, jt8] at c2
      refine OK_some ?_
      try dsimp only [Sum.elim_inl, Sum.elim_inr, jt2, jt3, jt4, jt5, jt6, jt7, jt8]
      try dsimp only [Sum.elim_inl, Sum.elim_inr, jt2, jt3, jt4, jt5, jt6, jt7, jt8]
      refine ⟨?_, ?_⟩
      · exact Or.inr ⟨c1, Or.inl ⟨c2, rfl, rfl⟩⟩ -- o1 e1.1
      · exact frG_r -- o2 e1.2
    · skip
      try simp (disch := omega) only [jst_eq, jst_ne, jst_ni, jI_i, jcmp_lt, jcmp_gt, w32_id, jcpy_out, Sum.elim_inl, Sum.elim_inr, jt2, jt3, jt4, jt5, jt6, jt7, jt8] at c2
      obtain ⟨rn, hs, se, kl⟩ := (ht.resolve_left c2).2
      have v := rn.2.2.2
      have n2 := v.1
      have IB := inN_b v
      have AW := rnX_a rn
      have HL := HS_len AW.1 AW.2 v hs
      refine OK_jb (vX8_many (n := L.1.1) (kf := L.1.2) _ (by exact ⟨rn.2.1.2.1, n2.1, n2.2.1⟩) (by exact fun k k0 k1 => ⟨rn.2.1.2.2.2.1 k k0 k1, n2.2.2 k k0 k1⟩)) (fun v4 r1 => ?_)
      try dsimp only [Sum.elim_inl, Sum.elim_inr, jt2, jt3, jt4, jt5, jt6, jt7, jt8] at r1
      have v1 := r1
      clear r1
      try simp (disch := omega) only [jst_eq, jst_ne, jst_ni, jI_i, jcmp_lt, jcmp_gt, w32_id, jcpy_out, Sum.elim_inl, Sum.elim_inr, jt2, jt3, jt4, jt5, jt6, jt7, jt8] at v1
      have V4 : v4 = inN L := by assumption
      have W4 : w32 (v4 - 1) = inN L - 1 := by { rw [V4, w32_id (by omega) (by omega)] }
      rw [W4]
      refine OK_jb (vX1_isIn _ _ _) (fun v6 r2 => ?_)
      try dsimp only [Sum.elim_inl, Sum.elim_inr, jt2, jt3, jt4, jt5, jt6, jt7, jt8] at r2
      have v2 := r2
      clear r2
      try simp (disch := omega) only [jst_eq, jst_ne, jst_ni, jI_i, jcmp_lt, jcmp_gt, w32_id, jcpy_out, Sum.elim_inl, Sum.elim_inr, jt2, jt3, jt4, jt5, jt6, jt7, jt8] at v2
      refine OK_if (fun c3 => ?_) (fun c3 => ?_)
      · skip
        try simp (disch := omega) only [jst_eq, jst_ne, jst_ni, jI_i, jcmp_lt, jcmp_gt, w32_id, jcpy_out, Sum.elim_inl, Sum.elim_inr, jt2, jt3, jt4, jt5, jt6, jt7, jt8] at c3
        refine OK_some ?_
        try dsimp only [Sum.elim_inl, Sum.elim_inr, jt2, jt3, jt4, jt5, jt6, jt7, jt8]
        try dsimp only [Sum.elim_inl, Sum.elim_inr, jt2, jt3, jt4, jt5, jt6, jt7, jt8]
        refine ⟨?_, ?_⟩
        · exact Or.inr ⟨c1, Or.inr ⟨by omega, Or.inl ⟨by omega, rfl, rfl⟩⟩⟩ -- o5 e2.1
        · exact frG_r -- o6 e2.2
      · skip
        try simp (disch := omega) only [jst_eq, jst_ne, jst_ni, jI_i, jcmp_lt, jcmp_gt, w32_id, jcpy_out, Sum.elim_inl, Sum.elim_inr, jt2, jt3, jt4, jt5, jt6, jt7, jt8] at c3
        refine OK_jb (vX1_isIn _ _ _) (fun v9 r3 => ?_)
        try dsimp only [Sum.elim_inl, Sum.elim_inr, jt2, jt3, jt4, jt5, jt6, jt7, jt8] at r3
        have v3 := r3
        clear r3
        try simp (disch := omega) only [jst_eq, jst_ne, jst_ni, jI_i, jcmp_lt, jcmp_gt, w32_id, jcpy_out, Sum.elim_inl, Sum.elim_inr, jt2, jt3, jt4, jt5, jt6, jt7, jt8] at v3
        refine OK_if (fun c4 => ?_) (fun c4 => ?_)
        · skip
          try simp (disch := omega) only [jst_eq, jst_ne, jst_ni, jI_i, jcmp_lt, jcmp_gt, w32_id, jcpy_out, Sum.elim_inl, Sum.elim_inr, jt2, jt3, jt4, jt5, jt6, jt7, jt8] at c4
          refine OK_some ?_
          try dsimp only [Sum.elim_inl, Sum.elim_inr, jt2, jt3, jt4, jt5, jt6, jt7, jt8]
          try dsimp only [Sum.elim_inl, Sum.elim_inr, jt2, jt3, jt4, jt5, jt6, jt7, jt8]
          refine ⟨?_, ?_⟩
          · exact Or.inr ⟨c1, Or.inr ⟨by omega, Or.inl ⟨by omega, rfl, rfl⟩⟩⟩ -- o7 e3.1
          · exact frG_r -- o8 e3.2
        · skip
          try simp (disch := omega) only [jst_eq, jst_ne, jst_ni, jI_i, jcmp_lt, jcmp_gt, w32_id, jcpy_out, Sum.elim_inl, Sum.elim_inr, jt2, jt3, jt4, jt5, jt6, jt7, jt8] at c4
          refine OK_jb (vX1_beginRuns (by exact kl.2.1)) (fun h12 r4 => ?_)
          try dsimp only [Sum.elim_inl, Sum.elim_inr, jt2, jt3, jt4, jt5, jt6, jt7, jt8] at r4
          have v4 := r4
          clear r4
          try simp (disch := omega) only [jst_eq, jst_ne, jst_ni, jI_i, jcmp_lt, jcmp_gt, w32_id, jcpy_out, Sum.elim_inl, Sum.elim_inr, jt2, jt3, jt4, jt5, jt6, jt7, jt8] at v4
          have A12 : ∀ a s, h12 a s = if a = 404 ∧ 0 ≤ s ∧ s < 4096 then 0 else h a s := by assumption
          have G12 : frG h h12 := fun a s y1 y2 y3 y4 => by { rw [A12, if_neg (by omega)] }
          have B12 : bd10 h12 := by { unfold bd10; rw [A12, if_neg (by omega)]; exact rn.1.2.2.2.2 }
          refine OK_jb (vX1_goThrough (E := E) (Rf := Rf) (W := W) (hl := hl) (L := L) (H := H) (T := .leaf (0, 0, 0, 0)) _ _ _ (by exact rnX_f rn B12 G12) (by omega) (by exact Or.inl ⟨rfl, by omega⟩) (by exact fun p p0 p1 e => by rw [A12, if_pos (by omega)] at e; omega) (by exact fun _ => snX_f hx se (fun a s q => by rw [A12, if_neg (by omega)]) ⟨E, v⟩)) (fun h14 r5 => ?_)
          try dsimp only [Sum.elim_inl, Sum.elim_inr, jt2, jt3, jt4, jt5, jt6, jt7, jt8] at r5
          obtain ⟨rr5, md5, mk5, fr5, bb5⟩ := r5
          try simp (disch := omega) only [jst_eq, jst_ne, jst_ni, jI_i, jcmp_lt, jcmp_gt, w32_id, jcpy_out, Sum.elim_inl, Sum.elim_inr, jt2, jt3, jt4, jt5, jt6, jt7, jt8] at rr5
          try simp (disch := omega) only [jst_eq, jst_ne, jst_ni, jI_i, jcmp_lt, jcmp_gt, w32_id, jcpy_out, Sum.elim_inl, Sum.elim_inr, jt2, jt3, jt4, jt5, jt6, jt7, jt8] at md5
          try simp (disch := omega) only [jst_eq, jst_ne, jst_ni, jI_i, jcmp_lt, jcmp_gt, w32_id, jcpy_out, Sum.elim_inl, Sum.elim_inr, jt2, jt3, jt4, jt5, jt6, jt7, jt8] at mk5
          try simp (disch := omega) only [jst_eq, jst_ne, jst_ni, jI_i, jcmp_lt, jcmp_gt, w32_id, jcpy_out, Sum.elim_inl, Sum.elim_inr, jt2, jt3, jt4, jt5, jt6, jt7, jt8] at fr5
          try simp (disch := omega) only [jst_eq, jst_ne, jst_ni, jI_i, jcmp_lt, jcmp_gt, w32_id, jcpy_out, Sum.elim_inl, Sum.elim_inr, jt2, jt3, jt4, jt5, jt6, jt7, jt8] at bb5
          have R14 := rr5.1
          have S14 : snX h14 L H := snX_sub (md5.resolve_right (fun z => by have := z.1; omega)).2 (fun s m => HS_sub hs a1.toNat (by omega) _ _ _ (by rw [show ((a1.toNat : Nat) : Int) = a1 by omega]; exact R14) s (by rw [show ((a1.toNat : Nat) : Int) = a1 by omega]; exact m))
          have F14 : frG h h14 := frG_t G12 fr5
          have L14 : lpX h14 E Rf W hl L H := by { refine ⟨rnX_f rn bb5 F14, hs, S14, ?_⟩; obtain ⟨k12, k4, k5⟩ := kl; unfold kl2; rw [F14 200 39 (by omega) (by omega) (by omega) (by omega), F14 (h 200 39 + 12) (-2) (by omega) (by omega) (by omega) (by omega), F14 (h 200 39 + 12) (-1) (by omega) (by omega) (by omega) (by omega), F14 404 (-2) (by omega) (by omega) (by omega) (by omega), F14 404 (-1) (by omega) (by omega) (by omega) (by omega), F14 405 (-2) (by omega) (by omega) (by omega) (by omega), F14 405 (-1) (by omega) (by omega) (by omega) (by omega)]; exact ⟨k12, k4, k5⟩ }
          refine OK_if (fun c5 => ?_) (fun c5 => ?_)
          · skip
            try simp (disch := omega) only [jst_eq, jst_ne, jst_ni, jI_i, jcmp_lt, jcmp_gt, w32_id, jcpy_out, Sum.elim_inl, Sum.elim_inr, jt2, jt3, jt4, jt5, jt6, jt7, jt8] at c5
            refine OK_some ?_
            try dsimp only [Sum.elim_inl, Sum.elim_inr, jt2, jt3, jt4, jt5, jt6, jt7, jt8]
            try dsimp only [Sum.elim_inl, Sum.elim_inr, jt2, jt3, jt4, jt5, jt6, jt7, jt8]
            refine ⟨?_, ?_⟩
            · exact Or.inr ⟨c1, Or.inr ⟨by omega, Or.inr ⟨by omega, L14, _, _, _, R14, by unfold runV; rw [if_pos (by omega)]⟩⟩⟩ -- o15 e4.1
            · exact F14 -- o16 e4.2
          · skip
            try simp (disch := omega) only [jst_eq, jst_ne, jst_ni, jI_i, jcmp_lt, jcmp_gt, w32_id, jcpy_out, Sum.elim_inl, Sum.elim_inr, jt2, jt3, jt4, jt5, jt6, jt7, jt8] at c5
            refine OK_if (fun c6 => ?_) (fun c6 => ?_)
            · skip
              try simp (disch := omega) only [jst_eq, jst_ne, jst_ni, jI_i, jcmp_lt, jcmp_gt, w32_id, jcpy_out, Sum.elim_inl, Sum.elim_inr, jt2, jt3, jt4, jt5, jt6, jt7, jt8] at c6
              refine OK_some ?_
              try dsimp only [Sum.elim_inl, Sum.elim_inr, jt2, jt3, jt4, jt5, jt6, jt7, jt8]
              try dsimp only [Sum.elim_inl, Sum.elim_inr, jt2, jt3, jt4, jt5, jt6, jt7, jt8]
              refine ⟨?_, ?_⟩
              · exact Or.inr ⟨c1, Or.inr ⟨by omega, Or.inr ⟨by omega, L14, _, _, _, R14, by unfold runV; rw [if_neg (by omega), if_pos (by omega)]⟩⟩⟩ -- o17 e5.1
              · exact F14 -- o18 e5.2
            · skip
              try simp (disch := omega) only [jst_eq, jst_ne, jst_ni, jI_i, jcmp_lt, jcmp_gt, w32_id, jcpy_out, Sum.elim_inl, Sum.elim_inr, jt2, jt3, jt4, jt5, jt6, jt7, jt8] at c6
              refine OK_if (fun c7 => ?_) (fun c7 => ?_)
              · skip
                try simp (disch := omega) only [jst_eq, jst_ne, jst_ni, jI_i, jcmp_lt, jcmp_gt, w32_id, jcpy_out, Sum.elim_inl, Sum.elim_inr, jt2, jt3, jt4, jt5, jt6, jt7, jt8] at c7
                refine OK_some ?_
                try dsimp only [Sum.elim_inl, Sum.elim_inr, jt2, jt3, jt4, jt5, jt6, jt7, jt8]
                try dsimp only [Sum.elim_inl, Sum.elim_inr, jt2, jt3, jt4, jt5, jt6, jt7, jt8]
                refine ⟨?_, ?_⟩
                · exact Or.inr ⟨c1, Or.inr ⟨by omega, Or.inr ⟨by omega, L14, _, _, _, R14, by unfold runV; rw [if_neg (by omega), if_neg (by omega), if_pos (by omega)]⟩⟩⟩ -- o19 e6.1
                · exact F14 -- o20 e6.2
              · skip
                try simp (disch := omega) only [jst_eq, jst_ne, jst_ni, jI_i, jcmp_lt, jcmp_gt, w32_id, jcpy_out, Sum.elim_inl, Sum.elim_inr, jt2, jt3, jt4, jt5, jt6, jt7, jt8] at c7
                refine OK_some ?_
                try dsimp only [Sum.elim_inl, Sum.elim_inr, jt2, jt3, jt4, jt5, jt6, jt7, jt8]
                try dsimp only [Sum.elim_inl, Sum.elim_inr, jt2, jt3, jt4, jt5, jt6, jt7, jt8]
                refine ⟨?_, ?_⟩
                · exact Or.inr ⟨c1, Or.inr ⟨by omega, Or.inr ⟨by omega, L14, _, _, _, R14, by unfold runV; rw [if_neg (by omega), if_neg (by omega), if_neg (by omega)]⟩⟩⟩ -- o21 e7.1
                · exact F14 -- o22 e7.2
  · skip
    try simp (disch := omega) only [jst_eq, jst_ne, jst_ni, jI_i, jcmp_lt, jcmp_gt, w32_id, jcpy_out, Sum.elim_inl, Sum.elim_inr, jt2, jt3, jt4, jt5, jt6, jt7, jt8] at c1
    refine OK_some ?_
    try dsimp only [Sum.elim_inl, Sum.elim_inr, jt2, jt3, jt4, jt5, jt6, jt7, jt8]
    try dsimp only [Sum.elim_inl, Sum.elim_inr, jt2, jt3, jt4, jt5, jt6, jt7, jt8]
    refine ⟨?_, ?_⟩
    · exact Or.inl ⟨by omega, rfl, rfl⟩ -- o23 e8.1
    · exact frG_r -- o24 e8.2
def spnV (H : List (Int → Int)) (k w : Int) : Int := if w = 0 then (if H = [] then -1 else lsR k H) else gtR k H
theorem vX1_span (a1 : Int) (a2 : Int) {h : AH} {E : EV} {Rf : Int → TR} {W : Int → Int → Int → VW} {hl : Int → Int} {L : LE} {H : List (Int → Int)} (hd : h 200 53 = 0 ∨ h 200 53 = 1) (hx : h 200 39 = 378 ∨ h 200 39 = 391) (ht : h (h 200 39) 9 = 0 ∨ (h (h 200 39) 9 = 1 ∧ lpX h E Rf W hl L H)) : OK (gX1_span a1 a2 h) (fun v => (h 200 53 = 1 ∧ v = -5) ∨ (h 200 53 = 0 ∧ ((h (h 200 39) 9 = 0 ∧ v = -2) ∨ (h (h 200 39) 9 = 1 ∧ ((¬ ((0 ≤ a1 ∧ a1 < L.2.1.1) ∧ 0 ≤ a2 ∧ a2 ≤ 1) ∧ v = -1) ∨ (((0 ≤ a1 ∧ a1 < L.2.1.1) ∧ 0 ≤ a2 ∧ a2 ≤ 1) ∧ v = spnV H a1 a2)))))) := by
  unfold gX1_span
  refine OK_if (fun c1 => ?_) (fun c1 => ?_)
  · skip
    try simp (disch := omega) only [jst_eq, jst_ne, jst_ni, jI_i, jcmp_lt, jcmp_gt, w32_id, jcpy_out, Sum.elim_inl, Sum.elim_inr, jt2, jt3, jt4, jt5, jt6, jt7, jt8] at c1
    refine OK_if (fun c2 => ?_) (fun c2 => ?_)
    · skip
      try simp (disch := omega) only [jst_eq, jst_ne, jst_ni, jI_i, jcmp_lt, jcmp_gt, w32_id, jcpy_out, Sum.elim_inl, Sum.elim_inr, jt2, jt3, jt4, jt5, jt6, jt7, jt8] at c2
      refine OK_some ?_
      try dsimp only [Sum.elim_inl, Sum.elim_inr, jt2, jt3, jt4, jt5, jt6, jt7, jt8]
      exact Or.inr ⟨c1, Or.inl ⟨c2, rfl⟩⟩ -- o1 e1
    · skip
      try simp (disch := omega) only [jst_eq, jst_ne, jst_ni, jI_i, jcmp_lt, jcmp_gt, w32_id, jcpy_out, Sum.elim_inl, Sum.elim_inr, jt2, jt3, jt4, jt5, jt6, jt7, jt8] at c2
      obtain ⟨rn, hs, se, kl⟩ := (ht.resolve_left c2).2
      have n3 := rn.2.2.2.2.1
      have LM := rn.2.1.2.2.1
      have W4 : w32 (h (h 200 39) 2 - 1) = L.2.1.1 - 1 := by { rw [LM, w32_id (by omega) (by omega)] }
      rw [W4]
      refine OK_jb (vX1_isIn _ _ _) (fun v4 r1 => ?_)
      try dsimp only [Sum.elim_inl, Sum.elim_inr, jt2, jt3, jt4, jt5, jt6, jt7, jt8] at r1
      have v1 := r1
      clear r1
      try simp (disch := omega) only [jst_eq, jst_ne, jst_ni, jI_i, jcmp_lt, jcmp_gt, w32_id, jcpy_out, Sum.elim_inl, Sum.elim_inr, jt2, jt3, jt4, jt5, jt6, jt7, jt8] at v1
      refine OK_if (fun c3 => ?_) (fun c3 => ?_)
      · skip
        try simp (disch := omega) only [jst_eq, jst_ne, jst_ni, jI_i, jcmp_lt, jcmp_gt, w32_id, jcpy_out, Sum.elim_inl, Sum.elim_inr, jt2, jt3, jt4, jt5, jt6, jt7, jt8] at c3
        refine OK_some ?_
        try dsimp only [Sum.elim_inl, Sum.elim_inr, jt2, jt3, jt4, jt5, jt6, jt7, jt8]
        exact Or.inr ⟨c1, Or.inr ⟨by omega, Or.inl ⟨by omega, rfl⟩⟩⟩ -- o2 e2
      · skip
        try simp (disch := omega) only [jst_eq, jst_ne, jst_ni, jI_i, jcmp_lt, jcmp_gt, w32_id, jcpy_out, Sum.elim_inl, Sum.elim_inr, jt2, jt3, jt4, jt5, jt6, jt7, jt8] at c3
        refine OK_jb (vX1_isIn _ _ _) (fun v7 r2 => ?_)
        try dsimp only [Sum.elim_inl, Sum.elim_inr, jt2, jt3, jt4, jt5, jt6, jt7, jt8] at r2
        have v2 := r2
        clear r2
        try simp (disch := omega) only [jst_eq, jst_ne, jst_ni, jI_i, jcmp_lt, jcmp_gt, w32_id, jcpy_out, Sum.elim_inl, Sum.elim_inr, jt2, jt3, jt4, jt5, jt6, jt7, jt8] at v2
        refine OK_if (fun c4 => ?_) (fun c4 => ?_)
        · skip
          try simp (disch := omega) only [jst_eq, jst_ne, jst_ni, jI_i, jcmp_lt, jcmp_gt, w32_id, jcpy_out, Sum.elim_inl, Sum.elim_inr, jt2, jt3, jt4, jt5, jt6, jt7, jt8] at c4
          refine OK_some ?_
          try dsimp only [Sum.elim_inl, Sum.elim_inr, jt2, jt3, jt4, jt5, jt6, jt7, jt8]
          exact Or.inr ⟨c1, Or.inr ⟨by omega, Or.inl ⟨by omega, rfl⟩⟩⟩ -- o3 e3
        · skip
          try simp (disch := omega) only [jst_eq, jst_ne, jst_ni, jI_i, jcmp_lt, jcmp_gt, w32_id, jcpy_out, Sum.elim_inl, Sum.elim_inr, jt2, jt3, jt4, jt5, jt6, jt7, jt8] at c4
          have S4 := se.2.2.2 a1 (by omega) (by omega)
          refine OK_if (fun c5 => ?_) (fun c5 => ?_)
          · skip
            try simp (disch := omega) only [jst_eq, jst_ne, jst_ni, jI_i, jcmp_lt, jcmp_gt, w32_id, jcpy_out, Sum.elim_inl, Sum.elim_inr, jt2, jt3, jt4, jt5, jt6, jt7, jt8] at c5
            refine OK_jg (by (first | assumption | omega | ((try dsimp only [jt2, jt3, jt4]); first | omega | (simp (disch := omega) only [jst_eq, jst_ne, jst_ni, jst_o, jI_i, jcpy_out, w32_id, jdiv_nn, jshr_k, jand_255] <;> first | done | omega | assumption)) | (intros; simp (disch := omega) only [jst_eq, jst_ne, jst_ni, jst_o, jI_i, jcpy_out, w32_id, jdiv_nn, *] <;> first | done | omega) | (intros; simp (disch := omega) only [jst_eq, jst_ne, jst_ni, jst_o, jI_i, jcpy_out, w32_id, jdiv_nn] at * <;> first | done | omega | assumption) | (intros; first | rfl | (exfalso; omega) | ((repeat' apply And.intro) <;> first | assumption | rfl | omega | trivial)))) ?_ -- o4
            refine OK_some ?_
            try dsimp only [Sum.elim_inl, Sum.elim_inr, jt2, jt3, jt4, jt5, jt6, jt7, jt8]
            exact Or.inr ⟨c1, Or.inr ⟨by omega, Or.inr ⟨by omega, by unfold spnV; rw [if_pos (by omega)]; exact S4.1⟩⟩⟩ -- o5 e4
          · skip
            try simp (disch := omega) only [jst_eq, jst_ne, jst_ni, jI_i, jcmp_lt, jcmp_gt, w32_id, jcpy_out, Sum.elim_inl, Sum.elim_inr, jt2, jt3, jt4, jt5, jt6, jt7, jt8] at c5
            refine OK_jg (by (first | assumption | omega | ((try dsimp only [jt2, jt3, jt4]); first | omega | (simp (disch := omega) only [jst_eq, jst_ne, jst_ni, jst_o, jI_i, jcpy_out, w32_id, jdiv_nn, jshr_k, jand_255] <;> first | done | omega | assumption)) | (intros; simp (disch := omega) only [jst_eq, jst_ne, jst_ni, jst_o, jI_i, jcpy_out, w32_id, jdiv_nn, *] <;> first | done | omega) | (intros; simp (disch := omega) only [jst_eq, jst_ne, jst_ni, jst_o, jI_i, jcpy_out, w32_id, jdiv_nn] at * <;> first | done | omega | assumption) | (intros; first | rfl | (exfalso; omega) | ((repeat' apply And.intro) <;> first | assumption | rfl | omega | trivial)))) ?_ -- o6
            refine OK_some ?_
            try dsimp only [Sum.elim_inl, Sum.elim_inr, jt2, jt3, jt4, jt5, jt6, jt7, jt8]
            exact Or.inr ⟨c1, Or.inr ⟨by omega, Or.inr ⟨by omega, by unfold spnV; rw [if_neg (by omega)]; exact S4.2⟩⟩⟩ -- o7 e5
  · skip
    try simp (disch := omega) only [jst_eq, jst_ne, jst_ni, jI_i, jcmp_lt, jcmp_gt, w32_id, jcpy_out, Sum.elim_inl, Sum.elim_inr, jt2, jt3, jt4, jt5, jt6, jt7, jt8] at c1
    refine OK_some ?_
    try dsimp only [Sum.elim_inl, Sum.elim_inr, jt2, jt3, jt4, jt5, jt6, jt7, jt8]
    exact Or.inl ⟨by omega, rfl⟩ -- o8 e6

