/-! m's shortest row: level by level -/
theorem or5_lt {a x : Int} (q : a = x ∨ a = x + 1 ∨ a = x + 2 ∨ a = x + 3 ∨ a = x + 4) (l : a < x) : False := by omega
theorem vX14_findLevelM {h : AH} {L : Nat} (w : MBS h L ∧ L ≤ 4 ∧ usR h) : OK (gX14_findLevel h) (fun h' => MBS h' (L + 1) ∧ usP h h' ∧ ((∀ a, a ≠ 0 → a < h 0 0 → (owM h' a ↔ owM h a)) ∧ frX9 h h')) := by
  obtain ⟨⟨hz, l⟩, l4, ur⟩ := w
  rcases l with ⟨l0, m0, m1, m2, m3, m4⟩ | ⟨l1, p1, p2, p3, p4, p8, b, hb, ls⟩
  · subst l0
    refine OK_mono (vX14_findLevel0 ⟨m0, m1, m2⟩ (usR_0 ur m0 m3) hz) (fun h' z => ?_)
    obtain ⟨z1, ⟨z2, z3, z4⟩, z5⟩ := z
    have e151 : h' 454 151 = 0 := by rw [z5 _ _ (by omega) (by omega) (by omega) (by omega)]; exact m3
    have e152 : h' 454 152 = 0 := by rw [z5 _ _ (by omega) (by omega) (by omega) (by omega)]; exact m4
    have e146 : h' 454 146 = 1 := z1.2.1.1
    have k := z1.1.1
    refine ⟨⟨by omega, Or.inr ⟨by omega, _, _, _, _, _, z1, by omega, Or.inl ⟨e151, e152⟩⟩⟩, ⟨?_, ?_, by omega, by omega, by omega⟩, fun a a0 a1 => ?_, fun a s a0 a1 _ a3 a4 => z5 a s a0 a1 (by omega) (by omega)⟩
    · unfold us1
      rw [if_neg (show ¬ h' 454 146 = 0 by omega), if_pos e151, if_pos m0, if_pos m3]
      omega
    · unfold us2
      rw [if_neg (show ¬ h' 454 146 = 0 by omega), if_pos e151, if_pos m0, if_pos m3]
      omega
    · unfold owM
      rw [k.1, k.2.1, k.2.2.1, k.2.2.2.1, k.2.2.2.2]
      constructor
      · rintro (⟨_, q⟩ | ⟨q, _⟩)
        · exact (or5_lt q a1).elim
        · exact absurd e151 q
      · rintro (⟨q, _⟩ | ⟨q, _⟩)
        · exact absurd m0 q
        · exact absurd m3 q
  · have e146 : h 454 146 = (L : Int) := b.2.1.1
    have tz := b.1.2.2
    have k := b.1.1
    have n151 : h 454 151 = 0 ∧ h 454 152 = 0 := ls.resolve_right (fun q => by omega)
    refine OK_mono (vX14_findLevel b l4) (fun h' z => ?_)
    obtain ⟨z1, z2⟩ := z
    have k' := z1.1.1
    have e0 : ∀ s, h' 0 s = h 0 s := fun s => z2 _ _ (by omega) (by omega) (by omega)
    have e151 : h' 454 151 = h 454 151 := z2 _ _ (by omega) (by omega) (by omega)
    have e152 : h' 454 152 = h 454 152 := z2 _ _ (by omega) (by omega) (by omega)
    have e146' : h' 454 146 = ((L + 1 : Nat) : Int) := z1.2.1.1
    have n146 : h 454 146 ≠ 0 := by rw [e146]; omega
    have n146' : h' 454 146 ≠ 0 := by rw [e146']; omega
    refine ⟨⟨by rw [e0]; exact hz, Or.inr ⟨by omega, p1, p2, p3, p4, p8, z1, by rw [e0]; exact hb, Or.inl ⟨by rw [e151]; exact n151.1, by rw [e152]; exact n151.2⟩⟩⟩, ⟨?_, ?_, by rw [e0]; omega, by rw [e0]; omega, by rw [e0]; omega⟩, fun a a0 a1 => ?_, fun a s a0 a1 a2 a3 a4 => ?_⟩
    · unfold us1
      rw [e0, e151, if_neg (show ¬ h' 454 146 = 0 by omega), if_neg (show ¬ h 454 146 = 0 by omega)]
    · unfold us2
      rw [e0, e151, if_neg (show ¬ h' 454 146 = 0 by omega), if_neg (show ¬ h 454 146 = 0 by omega)]
    · unfold owM
      rw [k'.1, k'.2.1, k'.2.2.1, k'.2.2.2.1, k'.2.2.2.2, k.1, k.2.1, k.2.2.1, k.2.2.2.1, k.2.2.2.2, e151, n151.1]
      constructor
      · rintro (⟨_, q⟩ | ⟨q, _⟩)
        · exact Or.inl ⟨n146, q⟩
        · exact absurd rfl q
      · rintro (⟨_, q⟩ | ⟨q, _⟩)
        · exact Or.inl ⟨n146', q⟩
        · exact absurd rfl q
    · refine z2 a s (fun q => a2 (Or.inl ⟨by omega, ?_⟩)) (by omega) (by omega)
      rw [k.1, k.2.1, k.2.2.1, k.2.2.2.1, k.2.2.2.2]
      exact q.1
theorem frX9_t {a b c : AH} (l : a 0 0 ≤ b 0 0) (o : ∀ x, x ≠ 0 → x < a 0 0 → (owM b x ↔ owM a x)) (x : frX9 a b) (y : frX9 b c) : frX9 a c := fun p s p0 p1 p2 p3 p4 => by
  rw [y p s p0 (by omega) (fun q => p2 ((o p p0 p1).mp q)) p3 p4]
  exact x p s p0 p1 p2 p3 p4
theorem frX9_r (h : AH) : frX9 h h := fun _ _ _ _ _ _ _ => rfl
theorem MBS_l {h : AH} {L : Nat} (w : MBS h L) : h 454 146 = L := by
  rcases w.2 with ⟨q, z⟩ | ⟨q, _, _, _, _, _, z⟩
  · rw [z.1, q]; rfl
  · exact z.1.2.1.1
theorem MBS_p {h : AH} {L : Nat} (w : MBS h L) (l : 1 ≤ L) : ∃ p1 p2 p3 p4 p8, MBI h p1 p2 p3 p4 p8 L := (w.2.resolve_left (fun q => by omega)).2
theorem MBS_5 {h : AH} {L : Nat} (w : MBS h L) : L ≤ 5 := by
  rcases w.2 with ⟨q, z⟩ | ⟨q, _, _, _, _, _, z⟩
  · omega
  · exact z.1.2.1.2.2
theorem vX14_shortest_l61 (i1 : Int) (i3 : Int) (i4 : Int) (a50 : Int) {h : AH} {p1 p2 p3 p4 p8 : Int} {L n : Nat} (hb : BTI h p1 p2 p3 p4 p8 L) (hn : i4 = n ∧ n < L ∧ n ≤ 4) (h5 : a50 = h 871 n) : OK (gX14_shortest_l61 i1 i3 i4 a50 h) (Sum.elim (fun o => lvN h n o ∧ h p1 o = i1 ∧ ∀ k, h 871 n ≤ k → k < o → h p1 k ≠ i1) (fun _ => ∀ k, lvN h n k → h p1 k ≠ i1)) := by
  obtain ⟨⟨⟨k1, k2, k3, k4, k8⟩, ⟨s1, s2, s3, s4, s8⟩, z1, z2, z3, z4, z8⟩, q, cd, pt, hN, f⟩ := id hb
  have wn : w32 (i4 + 1) = (n : Int) + 1 := by rw [hn.1]; exact w32_id (by omega) (by omega)
  have b0 := (FUL_sz (FUL_lt f (show n ≤ L by omega))).1
  have b1 := (FUL_sz (FUL_lt f (show n + 1 ≤ L by omega))).2
  have b2 := szB_m (n := n + 1) (by omega)
  rw [show ((n + 1 : Nat) : Int) = (n : Int) + 1 by omega] at b1
  have b3 := f.2.1 n hn.2.1
  unfold gX14_shortest_l61
  refine OK_jit (I := (fun (a5 : Int) => (h 871 n ≤ a5 ∧ a5 ≤ h 871 ((n : Int) + 1)) ∧ (∀ k, h 871 n ≤ k → k < a5 → h p1 k ≠ i1))) (m := (fun (a5 : Int) => (h 871 ((n : Int) + 1) - a5).toNat)) ?_ ?_
  · intro a5 hs
    try dsimp only at hs
    obtain ⟨q0, q1⟩ := hs
    unfold gX14_shortest_b61
    rw [wn, k1]
    refine OK_jg (by (first | assumption | omega | ((try dsimp only [jt2, jt3, jt4]); first | omega | (simp (disch := omega) only [jst_eq, jst_ne, jst_ni, jst_o, jI_i, jcpy_out, w32_id, jdiv_nn, jshr_k, jand_255] <;> first | done | omega | assumption)) | (intros; simp (disch := omega) only [jst_eq, jst_ne, jst_ni, jst_o, jI_i, jcpy_out, w32_id, jdiv_nn, *] <;> first | done | omega) | (intros; simp (disch := omega) only [jst_eq, jst_ne, jst_ni, jst_o, jI_i, jcpy_out, w32_id, jdiv_nn] at * <;> first | done | omega | assumption) | (intros; first | rfl | (exfalso; omega) | ((repeat' apply And.intro) <;> first | assumption | rfl | omega | trivial)))) ?_ -- o1
    refine OK_if (fun c1 => ?_) (fun c1 => ?_)
    · skip
      try simp (disch := omega) only [jst_eq, jst_ne, jst_ni, jI_i, jcmp_lt, jcmp_gt, w32_id, jcpy_out, Sum.elim_inl, Sum.elim_inr, jt2, jt3, jt4, jt5, jt6, jt7, jt8] at c1
      refine OK_ir ?_
      exact fun k l => q1 k l.1 (by have := l.2; omega) -- o2 e1
    · skip
      try simp (disch := omega) only [jst_eq, jst_ne, jst_ni, jI_i, jcmp_lt, jcmp_gt, w32_id, jcpy_out, Sum.elim_inl, Sum.elim_inr, jt2, jt3, jt4, jt5, jt6, jt7, jt8] at c1
      refine OK_jg (by (first | assumption | omega | ((try dsimp only [jt2, jt3, jt4]); first | omega | (simp (disch := omega) only [jst_eq, jst_ne, jst_ni, jst_o, jI_i, jcpy_out, w32_id, jdiv_nn, jshr_k, jand_255] <;> first | done | omega | assumption)) | (intros; simp (disch := omega) only [jst_eq, jst_ne, jst_ni, jst_o, jI_i, jcpy_out, w32_id, jdiv_nn, *] <;> first | done | omega) | (intros; simp (disch := omega) only [jst_eq, jst_ne, jst_ni, jst_o, jI_i, jcpy_out, w32_id, jdiv_nn] at * <;> first | done | omega | assumption) | (intros; first | rfl | (exfalso; omega) | ((repeat' apply And.intro) <;> first | assumption | rfl | omega | trivial)))) ?_ -- o3
      refine OK_if (fun c2 => ?_) (fun c2 => ?_)
      · skip
        try simp (disch := omega) only [jst_eq, jst_ne, jst_ni, jI_i, jcmp_lt, jcmp_gt, w32_id, jcpy_out, Sum.elim_inl, Sum.elim_inr, jt2, jt3, jt4, jt5, jt6, jt7, jt8] at c2
        refine OK_ir ?_
        exact ⟨⟨q0.1, by omega⟩, jcmp_eq.mp c2, q1⟩ -- o4 e2
      · skip
        try simp (disch := omega) only [jst_eq, jst_ne, jst_ni, jI_i, jcmp_lt, jcmp_gt, w32_id, jcpy_out, Sum.elim_inl, Sum.elim_inr, jt2, jt3, jt4, jt5, jt6, jt7, jt8] at c2
        refine OK_jlx (fun x39 ex39 => ?_)
        try simp (disch := omega) only [jst_eq, jst_ne, jst_ni, jI_i, jcmp_lt, jcmp_gt, w32_id, jcpy_out, Sum.elim_inl, Sum.elim_inr, jt2, jt3, jt4, jt5, jt6, jt7, jt8] at ex39
        refine OK_il ?_ ?_
        · try dsimp only [Sum.elim_inl, Sum.elim_inr, jt2, jt3, jt4, jt5, jt6, jt7, jt8]
          refine ⟨?_, ?_⟩
          · (first | assumption | omega | ((try dsimp only [jt2, jt3, jt4]); first | omega | (simp (disch := omega) only [jst_eq, jst_ne, jst_ni, jst_o, jI_i, jcpy_out, w32_id, jdiv_nn, jshr_k, jand_255] <;> first | done | omega | assumption)) | (intros; simp (disch := omega) only [jst_eq, jst_ne, jst_ni, jst_o, jI_i, jcpy_out, w32_id, jdiv_nn, *] <;> first | done | omega) | (intros; simp (disch := omega) only [jst_eq, jst_ne, jst_ni, jst_o, jI_i, jcpy_out, w32_id, jdiv_nn] at * <;> first | done | omega | assumption) | (intros; first | rfl | (exfalso; omega) | ((repeat' apply And.intro) <;> first | assumption | rfl | omega | trivial))) -- o5 e3i.1
          · (intro k y1 y2; by_cases y : k = a5; { rw [y]; exact fun w => c2 (jcmp_eq.mpr w) }; { exact q1 k y1 (by omega) }) -- o6 e3i.2
        · (first | assumption | omega | ((try dsimp only [jt2, jt3, jt4]); first | omega | (simp (disch := omega) only [jst_eq, jst_ne, jst_ni, jst_o, jI_i, jcpy_out, w32_id, jdiv_nn, jshr_k, jand_255] <;> first | done | omega | assumption)) | (intros; simp (disch := omega) only [jst_eq, jst_ne, jst_ni, jst_o, jI_i, jcpy_out, w32_id, jdiv_nn, *] <;> first | done | omega) | (intros; simp (disch := omega) only [jst_eq, jst_ne, jst_ni, jst_o, jI_i, jcpy_out, w32_id, jdiv_nn] at * <;> first | done | omega | assumption) | (intros; first | rfl | (exfalso; omega) | ((repeat' apply And.intro) <;> first | assumption | rfl | omega | trivial))) -- o7 e3m
  · try dsimp only [Sum.elim_inl, Sum.elim_inr, jt2, jt3, jt4, jt5, jt6, jt7, jt8]
    refine ⟨?_, ?_⟩
    · (first | assumption | omega | ((try dsimp only [jt2, jt3, jt4]); first | omega | (simp (disch := omega) only [jst_eq, jst_ne, jst_ni, jst_o, jI_i, jcpy_out, w32_id, jdiv_nn, jshr_k, jand_255] <;> first | done | omega | assumption)) | (intros; simp (disch := omega) only [jst_eq, jst_ne, jst_ni, jst_o, jI_i, jcpy_out, w32_id, jdiv_nn, *] <;> first | done | omega) | (intros; simp (disch := omega) only [jst_eq, jst_ne, jst_ni, jst_o, jI_i, jcpy_out, w32_id, jdiv_nn] at * <;> first | done | omega | assumption) | (intros; first | rfl | (exfalso; omega) | ((repeat' apply And.intro) <;> first | assumption | rfl | omega | trivial))) -- o8 init.1
    · (intro k y1 y2; omega) -- o9 init.2
/-- what the levels tell of a goal -/
theorem BTI_no {h : AH} {p1 p2 p3 p4 p8 g : Int} {L n : Nat} (b : BTI h p1 p2 p3 p4 p8 L) (l : n < L) (no : ∀ n', n' < n → ∀ C', ¬ hitL g n' C') (z : ∀ k, lvN h n k → h p1 k ≠ g) : ∀ C, ¬ hitL g n C := fun C w => by
  obtain ⟨t, q, cd, pt, hN, f⟩ := b
  obtain ⟨e, e0, e1, e2, _⟩ := FUL_hit f l w no
  exact z e ⟨e0, e1⟩ e2
theorem FUL_fr {A B F Y : Int → Int} {cd : Int → Nat} {b : Int → Int} {L n most : Nat} {g k : Int} (f : FUL A B F Y cd b L) (l : n < L) (lm : n ≤ most) (no : ∀ n', n' < n → ∀ C', ¬ hitL g n' C') (k0 : b n ≤ k) (k1 : k < b ((n : Int) + 1)) (ak : A k = g) (fi : ∀ k', b n ≤ k' → k' < k → A k' ≠ g) : frsL g most n (cd k) := by
  refine ⟨lm, FUL_go f l k0 k1 ak, no, fun C' w => ?_⟩
  obtain ⟨e, e0, e1, e2, e3⟩ := FUL_hit f l w no
  by_cases y : k < e
  · have := f.2.2.2.1 n l k e k0 y e1
    omega
  · by_cases y2 : e = k
    · rw [← y2]; exact e3
    · exact absurd e2 (fi e e0 (by omega))
/-- the fifth act -/
theorem FUL_5 {A B F Y : Int → Int} {cd : Int → Nat} {b : Int → Int} {g : Int} (f : FUL A B F Y cd b 5) (no : ∀ n', n' < 5 → ∀ C', ¬ hitL g n' C') {C : Nat} (w : hitL g 5 C) : ∃ e, b 4 ≤ e ∧ e < b 5 ∧ cd e ≤ C / 18 ∧ AL (C % 18) (A e) (B e) = g := by
  have p := p18 4
  have c18 : C % 18 < 18 := Nat.mod_lt _ (by decide)
  have w1 := w.1
  have w2 := w.2
  have rs : runL 5 C = stpL (C % 18) (runL 4 (C / 18)) := rfl
  obtain ⟨i, i1, e, e0, e1, e2, e3⟩ := f.2.2.2.2 4 (by omega) (C / 18) (by omega)
  by_cases y : i = 4
  · subst y
    refine ⟨e, e0, e1, e3 rfl, ?_⟩
    rw [rs, ← e2] at w2
    exact w2
  · have s := f.2.2.1 i (by omega) e e0 e1
    have pi := p18 i
    have s1 := s.1
    refine absurd (show hitL g (i + 1) (18 * cd e + C % 18) from ⟨by omega, ?_⟩) (no (i + 1) (by omega) _)
    rw [runL_s c18, ← s.2.1, e2, ← rs]
    exact w2
theorem FUL_5f {A B F Y : Int → Int} {cd : Int → Nat} {b : Int → Int} {g k : Int} {x : Nat} (f : FUL A B F Y cd b 5) (no : ∀ n', n' < 5 → ∀ C', ¬ hitL g n' C') (kl : b 4 ≤ k ∧ k < b 5) (hx : x < 18) (ak : AL x (A k) (B k) = g) (fi : ∀ (k' : Int) (x' : Nat), b 4 ≤ k' → x' < 18 → 18 * k' + x' < 18 * k + x → AL x' (A k') (B k') ≠ g) : frsL g 5 5 (18 * cd k + x) := by
  have s := f.2.2.1 4 (by omega) k kl.1 kl.2
  have p := p18 4
  have s1 := s.1
  refine ⟨Nat.le_refl _, ⟨by omega, ?_⟩, no, fun C w => ?_⟩
  · rw [runL_s hx, ← s.2.1]
    exact ak
  · obtain ⟨e, e0, e1, e2, e3⟩ := FUL_5 f no w
    have c18 : C % 18 < 18 := Nat.mod_lt _ (by decide)
    by_cases y : k < e
    · have := f.2.2.2.1 4 (by omega) k e kl.1 y e1
      omega
    · by_cases y2 : e = k
      · rw [y2] at e2 e3
        by_cases y3 : x ≤ C % 18
        · omega
        · exact absurd e3 (fi k (C % 18) kl.1 c18 (by omega))
      · exact absurd e3 (fi e (C % 18) e0 c18 (by omega))
theorem vX14_shortest_l27 (i1 : Int) (i3 : Int) (a40 : Int) {h0 : AH} {most : Nat} (hm : i3 = most ∧ most ≤ 5) (h4 : a40 = 0) (hs : ∃ L, MBS h0 L) (hu : usR h0) : OK (gX14_shortest_l27 i1 i3 a40 h0) (Sum.elim (fun r => jt3 r fun y z h' => (∃ (p1 p2 p3 p4 p8 : Int) (L n : Nat) (cd : Int → Nat), (y = n ∧ n ≤ 4 ∧ n < L ∧ L ≤ 5) ∧ MBS h' L ∧ TK h' p1 p2 p3 p4 p8 ∧ FUL (h' p1) (h' p2) (h' p3) (h' p4) cd (h' 871) L ∧ lvN h' n z ∧ frsL i1 most n (cd z)) ∧ (usP h0 h') ∧ ((∀ a, a ≠ 0 → a < h0 0 0 → (owM h' a ↔ owM h0 a)) ∧ frX9 h0 h')) (fun h' => (∃ L : Nat, MBS h' L ∧ (most = 5 → L = 5) ∧ ∀ n, n ≤ 4 → n ≤ most → ∀ C, ¬ hitL i1 n C) ∧ (usP h0 h') ∧ ((∀ a, a ≠ 0 → a < h0 0 0 → (owM h' a ↔ owM h0 a)) ∧ frX9 h0 h'))) := by
  unfold gX14_shortest_l27
  refine OK_jit (I := (fun (s : Int × AH) => jt2 s fun a4 h => (0 ≤ a4 ∧ a4 ≤ most + 1 ∧ a4 ≤ 5) ∧ (∃ L : Nat, MBS h L ∧ a4 ≤ L) ∧ (∀ n, n < a4.toNat → ∀ C, ¬ hitL i1 n C) ∧ (usP h0 h) ∧ ((∀ a, a ≠ 0 → a < h0 0 0 → (owM h a ↔ owM h0 a)) ∧ frX9 h0 h))) (m := (fun (s : Int × AH) => jt2 s fun a4 h => (6 - a4).toNat)) ?_ ?_
  · intro s hs
    obtain ⟨a4, h⟩ := s
    dsimp only [Sum.elim_inl, Sum.elim_inr, jt2, jt3, jt4, jt5, jt6, jt7, jt8] at hs
    obtain ⟨q0, q1, q2, q3, q4⟩ := hs
    unfold gX14_shortest_b27
    refine OK_jt2 ?_
    obtain ⟨L, w1, w2⟩ := q1
    have w3 := MBS_5 w1
    have w4 := MBS_l w1
    have uR := usR_t hu q3
    refine OK_if (fun c1 => ?_) (fun c1 => ?_)
    · skip
      try simp (disch := omega) only [jst_eq, jst_ne, jst_ni, jI_i, jcmp_lt, jcmp_gt, w32_id, jcpy_out, Sum.elim_inl, Sum.elim_inr, jt2, jt3, jt4, jt5, jt6, jt7, jt8] at c1
      refine OK_ir ?_
      try dsimp only [Sum.elim_inl, Sum.elim_inr, jt2, jt3, jt4, jt5, jt6, jt7, jt8]
      refine ⟨?_, ?_, ?_⟩
      · exact ⟨L, w1, fun z => by omega, fun n n4 nm => q2 n (by omega)⟩ -- o1 e1.1
      · (first | assumption | omega | ((try dsimp only [jt2, jt3, jt4]); first | omega | (simp (disch := omega) only [jst_eq, jst_ne, jst_ni, jst_o, jI_i, jcpy_out, w32_id, jdiv_nn, jshr_k, jand_255] <;> first | done | omega | assumption)) | (intros; simp (disch := omega) only [jst_eq, jst_ne, jst_ni, jst_o, jI_i, jcpy_out, w32_id, jdiv_nn, *] <;> first | done | omega) | (intros; simp (disch := omega) only [jst_eq, jst_ne, jst_ni, jst_o, jI_i, jcpy_out, w32_id, jdiv_nn] at * <;> first | done | omega | assumption) | (intros; first | rfl | (exfalso; omega) | ((repeat' apply And.intro) <;> first | assumption | rfl | omega | trivial))) -- o2 e1.2
      · (first | assumption | omega | ((try dsimp only [jt2, jt3, jt4]); first | omega | (simp (disch := omega) only [jst_eq, jst_ne, jst_ni, jst_o, jI_i, jcpy_out, w32_id, jdiv_nn, jshr_k, jand_255] <;> first | done | omega | assumption)) | (intros; simp (disch := omega) only [jst_eq, jst_ne, jst_ni, jst_o, jI_i, jcpy_out, w32_id, jdiv_nn, *] <;> first | done | omega) | (intros; simp (disch := omega) only [jst_eq, jst_ne, jst_ni, jst_o, jI_i, jcpy_out, w32_id, jdiv_nn] at * <;> first | done | omega | assumption) | (intros; first | rfl | (exfalso; omega) | ((repeat' apply And.intro) <;> first | assumption | rfl | omega | trivial))) -- o3 e1.3
    · skip
      try simp (disch := omega) only [jst_eq, jst_ne, jst_ni, jI_i, jcmp_lt, jcmp_gt, w32_id, jcpy_out, Sum.elim_inl, Sum.elim_inr, jt2, jt3, jt4, jt5, jt6, jt7, jt8] at c1
      refine OK_if (fun c2 => ?_) (fun c2 => ?_)
      · skip
        try simp (disch := omega) only [jst_eq, jst_ne, jst_ni, jI_i, jcmp_lt, jcmp_gt, w32_id, jcpy_out, Sum.elim_inl, Sum.elim_inr, jt2, jt3, jt4, jt5, jt6, jt7, jt8] at c2
        refine OK_ir ?_
        try dsimp only [Sum.elim_inl, Sum.elim_inr, jt2, jt3, jt4, jt5, jt6, jt7, jt8]
        refine ⟨?_, ?_, ?_⟩
        · exact ⟨L, w1, fun z => by omega, fun n n4 nm => q2 n (by omega)⟩ -- o4 e2.1
        · (first | assumption | omega | ((try dsimp only [jt2, jt3, jt4]); first | omega | (simp (disch := omega) only [jst_eq, jst_ne, jst_ni, jst_o, jI_i, jcpy_out, w32_id, jdiv_nn, jshr_k, jand_255] <;> first | done | omega | assumption)) | (intros; simp (disch := omega) only [jst_eq, jst_ne, jst_ni, jst_o, jI_i, jcpy_out, w32_id, jdiv_nn, *] <;> first | done | omega) | (intros; simp (disch := omega) only [jst_eq, jst_ne, jst_ni, jst_o, jI_i, jcpy_out, w32_id, jdiv_nn] at * <;> first | done | omega | assumption) | (intros; first | rfl | (exfalso; omega) | ((repeat' apply And.intro) <;> first | assumption | rfl | omega | trivial))) -- o5 e2.2
        · (first | assumption | omega | ((try dsimp only [jt2, jt3, jt4]); first | omega | (simp (disch := omega) only [jst_eq, jst_ne, jst_ni, jst_o, jI_i, jcpy_out, w32_id, jdiv_nn, jshr_k, jand_255] <;> first | done | omega | assumption)) | (intros; simp (disch := omega) only [jst_eq, jst_ne, jst_ni, jst_o, jI_i, jcpy_out, w32_id, jdiv_nn, *] <;> first | done | omega) | (intros; simp (disch := omega) only [jst_eq, jst_ne, jst_ni, jst_o, jI_i, jcpy_out, w32_id, jdiv_nn] at * <;> first | done | omega | assumption) | (intros; first | rfl | (exfalso; omega) | ((repeat' apply And.intro) <;> first | assumption | rfl | omega | trivial))) -- o6 e2.3
      · skip
        try simp (disch := omega) only [jst_eq, jst_ne, jst_ni, jI_i, jcmp_lt, jcmp_gt, w32_id, jcpy_out, Sum.elim_inl, Sum.elim_inr, jt2, jt3, jt4, jt5, jt6, jt7, jt8] at c2
        refine OK_if (fun c3 => ?_) (fun c3 => ?_)
        · skip
          try simp (disch := omega) only [jst_eq, jst_ne, jst_ni, jI_i, jcmp_lt, jcmp_gt, w32_id, jcpy_out, Sum.elim_inl, Sum.elim_inr, jt2, jt3, jt4, jt5, jt6, jt7, jt8] at c3
          obtain ⟨L2, m1, m2⟩ : ∃ L2 : Nat, MBS h L2 ∧ a4 < L2 := ⟨L, w1, by omega⟩
          obtain ⟨p1, p2, p3, p4, p8, M⟩ := MBS_p m1 (by omega)
          unfold gX14_shortest_j52_27
          refine OK_jg (by (first | assumption | omega | ((try dsimp only [jt2, jt3, jt4]); first | omega | (simp (disch := omega) only [jst_eq, jst_ne, jst_ni, jst_o, jI_i, jcpy_out, w32_id, jdiv_nn, jshr_k, jand_255] <;> first | done | omega | assumption)) | (intros; simp (disch := omega) only [jst_eq, jst_ne, jst_ni, jst_o, jI_i, jcpy_out, w32_id, jdiv_nn, *] <;> first | done | omega) | (intros; simp (disch := omega) only [jst_eq, jst_ne, jst_ni, jst_o, jI_i, jcpy_out, w32_id, jdiv_nn] at * <;> first | done | omega | assumption) | (intros; first | rfl | (exfalso; omega) | ((repeat' apply And.intro) <;> first | assumption | rfl | omega | trivial)))) ?_ -- o7
          refine OK_jlx (fun x31 ex31 => ?_)
          try simp (disch := omega) only [jst_eq, jst_ne, jst_ni, jI_i, jcmp_lt, jcmp_gt, w32_id, jcpy_out, Sum.elim_inl, Sum.elim_inr, jt2, jt3, jt4, jt5, jt6, jt7, jt8] at ex31
          refine OK_jb (vX14_shortest_l61 (p1 := p1) (p2 := p2) (p3 := p3) (p4 := p4) (p8 := p8) (L := L2) (n := a4.toNat) _ _ _ _ (by exact M.1) (by exact ⟨by omega, by omega, by omega⟩) (by (rw [ex31, show ((a4.toNat : Nat) : Int) = a4 by omega]))) (fun o32 r1 => ?_)
          rcases o32 with o34 | o35
          · skip
            have r2 := r1; clear r1
            dsimp only [Sum.elim_inl, Sum.elim_inr] at r2
            try dsimp only [Sum.elim_inl, Sum.elim_inr, jt2, jt3, jt4, jt5, jt6, jt7, jt8] at r2
            have ye1 := r2
            clear r2
            try simp (disch := omega) only [jst_eq, jst_ne, jst_ni, jI_i, jcmp_lt, jcmp_gt, w32_id, jcpy_out, Sum.elim_inl, Sum.elim_inr, jt2, jt3, jt4, jt5, jt6, jt7, jt8] at ye1
            refine OK_jml ?_
            refine OK_ir ?_
            try dsimp only [Sum.elim_inl, Sum.elim_inr, jt2, jt3, jt4, jt5, jt6, jt7, jt8]
            refine ⟨?_, ?_, ?_⟩
            · (obtain ⟨⟨t, q, cd, pt, hN, f⟩, _⟩ := id M; obtain ⟨y1, y2, y3⟩ := ye1; exact ⟨p1, p2, p3, p4, p8, L2, a4.toNat, cd, ⟨by omega, by omega, by omega, MBS_5 m1⟩, m1, t, f, y1, FUL_fr f (by omega) (by omega) q2 y1.1 y1.2 y2 y3⟩) -- o11 e3.1
            · (first | assumption | omega | ((try dsimp only [jt2, jt3, jt4]); first | omega | (simp (disch := omega) only [jst_eq, jst_ne, jst_ni, jst_o, jI_i, jcpy_out, w32_id, jdiv_nn, jshr_k, jand_255] <;> first | done | omega | assumption)) | (intros; simp (disch := omega) only [jst_eq, jst_ne, jst_ni, jst_o, jI_i, jcpy_out, w32_id, jdiv_nn, *] <;> first | done | omega) | (intros; simp (disch := omega) only [jst_eq, jst_ne, jst_ni, jst_o, jI_i, jcpy_out, w32_id, jdiv_nn] at * <;> first | done | omega | assumption) | (intros; first | rfl | (exfalso; omega) | ((repeat' apply And.intro) <;> first | assumption | rfl | omega | trivial))) -- o12 e3.2
            · (first | assumption | omega | ((try dsimp only [jt2, jt3, jt4]); first | omega | (simp (disch := omega) only [jst_eq, jst_ne, jst_ni, jst_o, jI_i, jcpy_out, w32_id, jdiv_nn, jshr_k, jand_255] <;> first | done | omega | assumption)) | (intros; simp (disch := omega) only [jst_eq, jst_ne, jst_ni, jst_o, jI_i, jcpy_out, w32_id, jdiv_nn, *] <;> first | done | omega) | (intros; simp (disch := omega) only [jst_eq, jst_ne, jst_ni, jst_o, jI_i, jcpy_out, w32_id, jdiv_nn] at * <;> first | done | omega | assumption) | (intros; first | rfl | (exfalso; omega) | ((repeat' apply And.intro) <;> first | assumption | rfl | omega | trivial))) -- o13 e3.3
          · skip
            have r3 := r1; clear r1
            dsimp only [Sum.elim_inl, Sum.elim_inr] at r3
            try dsimp only [Sum.elim_inl, Sum.elim_inr, jt2, jt3, jt4, jt5, jt6, jt7, jt8] at r3
            have no2 := r3
            clear r3
            try simp (disch := omega) only [jst_eq, jst_ne, jst_ni, jI_i, jcmp_lt, jcmp_gt, w32_id, jcpy_out, Sum.elim_inl, Sum.elim_inr, jt2, jt3, jt4, jt5, jt6, jt7, jt8] at no2
            refine OK_jmr ?_
            refine OK_jlx (fun x36 ex36 => ?_)
            try simp (disch := omega) only [jst_eq, jst_ne, jst_ni, jI_i, jcmp_lt, jcmp_gt, w32_id, jcpy_out, Sum.elim_inl, Sum.elim_inr, jt2, jt3, jt4, jt5, jt6, jt7, jt8] at ex36
            refine OK_il ?_ ?_
            · try dsimp only [Sum.elim_inl, Sum.elim_inr, jt2, jt3, jt4, jt5, jt6, jt7, jt8]
              refine ⟨?_, ?_, ?_, ?_, ?_⟩
              · (first | assumption | omega | ((try dsimp only [jt2, jt3, jt4]); first | omega | (simp (disch := omega) only [jst_eq, jst_ne, jst_ni, jst_o, jI_i, jcpy_out, w32_id, jdiv_nn, jshr_k, jand_255] <;> first | done | omega | assumption)) | (intros; simp (disch := omega) only [jst_eq, jst_ne, jst_ni, jst_o, jI_i, jcpy_out, w32_id, jdiv_nn, *] <;> first | done | omega) | (intros; simp (disch := omega) only [jst_eq, jst_ne, jst_ni, jst_o, jI_i, jcpy_out, w32_id, jdiv_nn] at * <;> first | done | omega | assumption) | (intros; first | rfl | (exfalso; omega) | ((repeat' apply And.intro) <;> first | assumption | rfl | omega | trivial))) -- o14 e4i.1
              · exact ⟨L2, m1, by omega⟩ -- o15 e4i.2
              · (intro n nl; by_cases y : n = a4.toNat; { rw [y]; exact BTI_no M.1 (by omega) q2 no2 }; { exact q2 n (by omega) }) -- o16 e4i.3
              · (first | assumption | omega | ((try dsimp only [jt2, jt3, jt4]); first | omega | (simp (disch := omega) only [jst_eq, jst_ne, jst_ni, jst_o, jI_i, jcpy_out, w32_id, jdiv_nn, jshr_k, jand_255] <;> first | done | omega | assumption)) | (intros; simp (disch := omega) only [jst_eq, jst_ne, jst_ni, jst_o, jI_i, jcpy_out, w32_id, jdiv_nn, *] <;> first | done | omega) | (intros; simp (disch := omega) only [jst_eq, jst_ne, jst_ni, jst_o, jI_i, jcpy_out, w32_id, jdiv_nn] at * <;> first | done | omega | assumption) | (intros; first | rfl | (exfalso; omega) | ((repeat' apply And.intro) <;> first | assumption | rfl | omega | trivial))) -- o17 e4i.4
              · (first | assumption | omega | ((try dsimp only [jt2, jt3, jt4]); first | omega | (simp (disch := omega) only [jst_eq, jst_ne, jst_ni, jst_o, jI_i, jcpy_out, w32_id, jdiv_nn, jshr_k, jand_255] <;> first | done | omega | assumption)) | (intros; simp (disch := omega) only [jst_eq, jst_ne, jst_ni, jst_o, jI_i, jcpy_out, w32_id, jdiv_nn, *] <;> first | done | omega) | (intros; simp (disch := omega) only [jst_eq, jst_ne, jst_ni, jst_o, jI_i, jcpy_out, w32_id, jdiv_nn] at * <;> first | done | omega | assumption) | (intros; first | rfl | (exfalso; omega) | ((repeat' apply And.intro) <;> first | assumption | rfl | omega | trivial))) -- o18 e4i.5
            · (first | assumption | omega | ((try dsimp only [jt2, jt3, jt4]); first | omega | (simp (disch := omega) only [jst_eq, jst_ne, jst_ni, jst_o, jI_i, jcpy_out, w32_id, jdiv_nn, jshr_k, jand_255] <;> first | done | omega | assumption)) | (intros; simp (disch := omega) only [jst_eq, jst_ne, jst_ni, jst_o, jI_i, jcpy_out, w32_id, jdiv_nn, *] <;> first | done | omega) | (intros; simp (disch := omega) only [jst_eq, jst_ne, jst_ni, jst_o, jI_i, jcpy_out, w32_id, jdiv_nn] at * <;> first | done | omega | assumption) | (intros; first | rfl | (exfalso; omega) | ((repeat' apply And.intro) <;> first | assumption | rfl | omega | trivial))) -- o19 e4m
        · skip
          try simp (disch := omega) only [jst_eq, jst_ne, jst_ni, jI_i, jcmp_lt, jcmp_gt, w32_id, jcpy_out, Sum.elim_inl, Sum.elim_inr, jt2, jt3, jt4, jt5, jt6, jt7, jt8] at c3
          refine OK_jb (vX14_findLevelM (L := L) (by exact ⟨w1, by omega, uR⟩)) (fun h30 r4 => ?_)
          try dsimp only [Sum.elim_inl, Sum.elim_inr, jt2, jt3, jt4, jt5, jt6, jt7, jt8] at r4
          obtain ⟨ms3, us3, fr3⟩ := r4
          try simp (disch := omega) only [jst_eq, jst_ne, jst_ni, jI_i, jcmp_lt, jcmp_gt, w32_id, jcpy_out, Sum.elim_inl, Sum.elim_inr, jt2, jt3, jt4, jt5, jt6, jt7, jt8] at ms3
          try simp (disch := omega) only [jst_eq, jst_ne, jst_ni, jI_i, jcmp_lt, jcmp_gt, w32_id, jcpy_out, Sum.elim_inl, Sum.elim_inr, jt2, jt3, jt4, jt5, jt6, jt7, jt8] at us3
          try simp (disch := omega) only [jst_eq, jst_ne, jst_ni, jI_i, jcmp_lt, jcmp_gt, w32_id, jcpy_out, Sum.elim_inl, Sum.elim_inr, jt2, jt3, jt4, jt5, jt6, jt7, jt8] at fr3
          obtain ⟨L2, m1, m2⟩ : ∃ L2 : Nat, MBS h30 L2 ∧ a4 < L2 := ⟨L + 1, ms3, by omega⟩
          obtain ⟨p1, p2, p3, p4, p8, M⟩ := MBS_p m1 (by omega)
          have u2 : usP h0 h30 := usP_t q3 us3
          have f2 : (∀ a, a ≠ 0 → a < h0 0 0 → (owM h30 a ↔ owM h0 a)) ∧ frX9 h0 h30 := ⟨fun a a0 a1 => (fr3.1 a a0 (by have := q3.2.2.1; omega)).trans (q4.1 a a0 a1), frX9_t q3.2.2.1 q4.1 q4.2 fr3.2⟩
          unfold gX14_shortest_j52_27
          refine OK_jg (by (first | assumption | omega | ((try dsimp only [jt2, jt3, jt4]); first | omega | (simp (disch := omega) only [jst_eq, jst_ne, jst_ni, jst_o, jI_i, jcpy_out, w32_id, jdiv_nn, jshr_k, jand_255] <;> first | done | omega | assumption)) | (intros; simp (disch := omega) only [jst_eq, jst_ne, jst_ni, jst_o, jI_i, jcpy_out, w32_id, jdiv_nn, *] <;> first | done | omega) | (intros; simp (disch := omega) only [jst_eq, jst_ne, jst_ni, jst_o, jI_i, jcpy_out, w32_id, jdiv_nn] at * <;> first | done | omega | assumption) | (intros; first | rfl | (exfalso; omega) | ((repeat' apply And.intro) <;> first | assumption | rfl | omega | trivial)))) ?_ -- o21
          refine OK_jlx (fun x31 ex31 => ?_)
          try simp (disch := omega) only [jst_eq, jst_ne, jst_ni, jI_i, jcmp_lt, jcmp_gt, w32_id, jcpy_out, Sum.elim_inl, Sum.elim_inr, jt2, jt3, jt4, jt5, jt6, jt7, jt8] at ex31
          refine OK_jb (vX14_shortest_l61 (p1 := p1) (p2 := p2) (p3 := p3) (p4 := p4) (p8 := p8) (L := L2) (n := a4.toNat) _ _ _ _ (by exact M.1) (by exact ⟨by omega, by omega, by omega⟩) (by (rw [ex31, show ((a4.toNat : Nat) : Int) = a4 by omega]))) (fun o32 r5 => ?_)
          rcases o32 with o34 | o35
          · skip
            have r6 := r5; clear r5
            dsimp only [Sum.elim_inl, Sum.elim_inr] at r6
            try dsimp only [Sum.elim_inl, Sum.elim_inr, jt2, jt3, jt4, jt5, jt6, jt7, jt8] at r6
            have ye4 := r6
            clear r6
            try simp (disch := omega) only [jst_eq, jst_ne, jst_ni, jI_i, jcmp_lt, jcmp_gt, w32_id, jcpy_out, Sum.elim_inl, Sum.elim_inr, jt2, jt3, jt4, jt5, jt6, jt7, jt8] at ye4
            refine OK_jml ?_
            refine OK_ir ?_
            try dsimp only [Sum.elim_inl, Sum.elim_inr, jt2, jt3, jt4, jt5, jt6, jt7, jt8]
            refine ⟨?_, ?_, ?_⟩
            · (obtain ⟨⟨t, q, cd, pt, hN, f⟩, _⟩ := id M; obtain ⟨y1, y2, y3⟩ := ye4; exact ⟨p1, p2, p3, p4, p8, L2, a4.toNat, cd, ⟨by omega, by omega, by omega, MBS_5 m1⟩, m1, t, f, y1, FUL_fr f (by omega) (by omega) q2 y1.1 y1.2 y2 y3⟩) -- o25 e5.1
            · (first | assumption | omega | ((try dsimp only [jt2, jt3, jt4]); first | omega | (simp (disch := omega) only [jst_eq, jst_ne, jst_ni, jst_o, jI_i, jcpy_out, w32_id, jdiv_nn, jshr_k, jand_255] <;> first | done | omega | assumption)) | (intros; simp (disch := omega) only [jst_eq, jst_ne, jst_ni, jst_o, jI_i, jcpy_out, w32_id, jdiv_nn, *] <;> first | done | omega) | (intros; simp (disch := omega) only [jst_eq, jst_ne, jst_ni, jst_o, jI_i, jcpy_out, w32_id, jdiv_nn] at * <;> first | done | omega | assumption) | (intros; first | rfl | (exfalso; omega) | ((repeat' apply And.intro) <;> first | assumption | rfl | omega | trivial))) -- o26 e5.2
            · (first | assumption | omega | ((try dsimp only [jt2, jt3, jt4]); first | omega | (simp (disch := omega) only [jst_eq, jst_ne, jst_ni, jst_o, jI_i, jcpy_out, w32_id, jdiv_nn, jshr_k, jand_255] <;> first | done | omega | assumption)) | (intros; simp (disch := omega) only [jst_eq, jst_ne, jst_ni, jst_o, jI_i, jcpy_out, w32_id, jdiv_nn, *] <;> first | done | omega) | (intros; simp (disch := omega) only [jst_eq, jst_ne, jst_ni, jst_o, jI_i, jcpy_out, w32_id, jdiv_nn] at * <;> first | done | omega | assumption) | (intros; first | rfl | (exfalso; omega) | ((repeat' apply And.intro) <;> first | assumption | rfl | omega | trivial))) -- o27 e5.3
          · skip
            have r7 := r5; clear r5
            dsimp only [Sum.elim_inl, Sum.elim_inr] at r7
            try dsimp only [Sum.elim_inl, Sum.elim_inr, jt2, jt3, jt4, jt5, jt6, jt7, jt8] at r7
            have no5 := r7
            clear r7
            try simp (disch := omega) only [jst_eq, jst_ne, jst_ni, jI_i, jcmp_lt, jcmp_gt, w32_id, jcpy_out, Sum.elim_inl, Sum.elim_inr, jt2, jt3, jt4, jt5, jt6, jt7, jt8] at no5
            refine OK_jmr ?_
            refine OK_jlx (fun x36 ex36 => ?_)
            try simp (disch := omega) only [jst_eq, jst_ne, jst_ni, jI_i, jcmp_lt, jcmp_gt, w32_id, jcpy_out, Sum.elim_inl, Sum.elim_inr, jt2, jt3, jt4, jt5, jt6, jt7, jt8] at ex36
            refine OK_il ?_ ?_
            · try dsimp only [Sum.elim_inl, Sum.elim_inr, jt2, jt3, jt4, jt5, jt6, jt7, jt8]
              refine ⟨?_, ?_, ?_, ?_, ?_⟩
              · (first | assumption | omega | ((try dsimp only [jt2, jt3, jt4]); first | omega | (simp (disch := omega) only [jst_eq, jst_ne, jst_ni, jst_o, jI_i, jcpy_out, w32_id, jdiv_nn, jshr_k, jand_255] <;> first | done | omega | assumption)) | (intros; simp (disch := omega) only [jst_eq, jst_ne, jst_ni, jst_o, jI_i, jcpy_out, w32_id, jdiv_nn, *] <;> first | done | omega) | (intros; simp (disch := omega) only [jst_eq, jst_ne, jst_ni, jst_o, jI_i, jcpy_out, w32_id, jdiv_nn] at * <;> first | done | omega | assumption) | (intros; first | rfl | (exfalso; omega) | ((repeat' apply And.intro) <;> first | assumption | rfl | omega | trivial))) -- o28 e6i.1
              · exact ⟨L2, m1, by omega⟩ -- o29 e6i.2
              · (intro n nl; by_cases y : n = a4.toNat; { rw [y]; exact BTI_no M.1 (by omega) q2 no5 }; { exact q2 n (by omega) }) -- o30 e6i.3
              · (first | assumption | omega | ((try dsimp only [jt2, jt3, jt4]); first | omega | (simp (disch := omega) only [jst_eq, jst_ne, jst_ni, jst_o, jI_i, jcpy_out, w32_id, jdiv_nn, jshr_k, jand_255] <;> first | done | omega | assumption)) | (intros; simp (disch := omega) only [jst_eq, jst_ne, jst_ni, jst_o, jI_i, jcpy_out, w32_id, jdiv_nn, *] <;> first | done | omega) | (intros; simp (disch := omega) only [jst_eq, jst_ne, jst_ni, jst_o, jI_i, jcpy_out, w32_id, jdiv_nn] at * <;> first | done | omega | assumption) | (intros; first | rfl | (exfalso; omega) | ((repeat' apply And.intro) <;> first | assumption | rfl | omega | trivial))) -- o31 e6i.4
              · (first | assumption | omega | ((try dsimp only [jt2, jt3, jt4]); first | omega | (simp (disch := omega) only [jst_eq, jst_ne, jst_ni, jst_o, jI_i, jcpy_out, w32_id, jdiv_nn, jshr_k, jand_255] <;> first | done | omega | assumption)) | (intros; simp (disch := omega) only [jst_eq, jst_ne, jst_ni, jst_o, jI_i, jcpy_out, w32_id, jdiv_nn, *] <;> first | done | omega) | (intros; simp (disch := omega) only [jst_eq, jst_ne, jst_ni, jst_o, jI_i, jcpy_out, w32_id, jdiv_nn] at * <;> first | done | omega | assumption) | (intros; first | rfl | (exfalso; omega) | ((repeat' apply And.intro) <;> first | assumption | rfl | omega | trivial))) -- o32 e6i.5
            · (first | assumption | omega | ((try dsimp only [jt2, jt3, jt4]); first | omega | (simp (disch := omega) only [jst_eq, jst_ne, jst_ni, jst_o, jI_i, jcpy_out, w32_id, jdiv_nn, jshr_k, jand_255] <;> first | done | omega | assumption)) | (intros; simp (disch := omega) only [jst_eq, jst_ne, jst_ni, jst_o, jI_i, jcpy_out, w32_id, jdiv_nn, *] <;> first | done | omega) | (intros; simp (disch := omega) only [jst_eq, jst_ne, jst_ni, jst_o, jI_i, jcpy_out, w32_id, jdiv_nn] at * <;> first | done | omega | assumption) | (intros; first | rfl | (exfalso; omega) | ((repeat' apply And.intro) <;> first | assumption | rfl | omega | trivial))) -- o33 e6m
  · try dsimp only [Sum.elim_inl, Sum.elim_inr, jt2, jt3, jt4, jt5, jt6, jt7, jt8]
    refine ⟨?_, ?_, ?_, ?_, ?_⟩
    · (first | assumption | omega | ((try dsimp only [jt2, jt3, jt4]); first | omega | (simp (disch := omega) only [jst_eq, jst_ne, jst_ni, jst_o, jI_i, jcpy_out, w32_id, jdiv_nn, jshr_k, jand_255] <;> first | done | omega | assumption)) | (intros; simp (disch := omega) only [jst_eq, jst_ne, jst_ni, jst_o, jI_i, jcpy_out, w32_id, jdiv_nn, *] <;> first | done | omega) | (intros; simp (disch := omega) only [jst_eq, jst_ne, jst_ni, jst_o, jI_i, jcpy_out, w32_id, jdiv_nn] at * <;> first | done | omega | assumption) | (intros; first | rfl | (exfalso; omega) | ((repeat' apply And.intro) <;> first | assumption | rfl | omega | trivial))) -- o34 init.1
    · (obtain ⟨L, w⟩ := hs; exact ⟨L, w, by omega⟩) -- o35 init.2
    · (intro n nl; omega) -- o36 init.3
    · exact usP_r _ -- o37 init.4
    · exact ⟨fun _ _ _ => Iff.rfl, frX9_r _⟩ -- o38 init.5
/-- what a row that was found leaves -/
def tldM (h' : AH) (n C : Nat) : Prop := h' 454 137 = n ∧ ∀ j : Nat, j < n → h' 850 j = dgL n C j
theorem MBS_g {h h' : AH} {L : Nat} (w : MBS h L) (z : h 0 0 ≤ h' 0 0) (f : ∀ a s, ((a = 454 ∧ 141 ≤ s ∧ s ≤ 153) ∨ a = 871 ∨ owM h a) → h' a s = h a s) : MBS h' L := by
  obtain ⟨hz, l⟩ := w
  have c : ∀ s, 141 ≤ s → s ≤ 153 → h' 454 s = h 454 s := fun s n n2 => f _ _ (Or.inl ⟨rfl, n, n2⟩)
  have g8 : h' 871 = h 871 := funext fun s => f _ s (Or.inr (Or.inl rfl))
  refine ⟨by omega, ?_⟩
  rcases l with ⟨l0, m0, m1, m2, m3, m4⟩ | ⟨l1, p1, p2, p3, p4, p8, ⟨t, q, cd, pt, hN, fu⟩, hb, ls⟩
  · refine Or.inl ⟨l0, ?_⟩
    unfold MB0
    rw [c _ (by omega) (by omega), c _ (by omega) (by omega), c _ (by omega) (by omega), c _ (by omega) (by omega), g8]
    exact ⟨m0, m1, m2, m3, m4⟩
  · have tz := t.2.2
    have n6 : h 454 146 ≠ 0 := by rw [q.1]; omega
    obtain ⟨k1, k2, k3, k4, k8⟩ := t.1
    have e1 : h' p1 = h p1 := funext fun s => f _ s (Or.inr (Or.inr (Or.inl ⟨n6, Or.inl k1.symm⟩)))
    have e2 : h' p2 = h p2 := funext fun s => f _ s (Or.inr (Or.inr (Or.inl ⟨n6, Or.inr (Or.inl k2.symm)⟩)))
    have e3 : h' p3 = h p3 := funext fun s => f _ s (Or.inr (Or.inr (Or.inl ⟨n6, Or.inr (Or.inr (Or.inl k3.symm))⟩)))
    have e4 : h' p4 = h p4 := funext fun s => f _ s (Or.inr (Or.inr (Or.inl ⟨n6, Or.inr (Or.inr (Or.inr (Or.inl k4.symm)))⟩)))
    have e8 : h' p8 = h p8 := funext fun s => f _ s (Or.inr (Or.inr (Or.inl ⟨n6, Or.inr (Or.inr (Or.inr (Or.inr k8.symm)))⟩)))
    have t' : TK h' p1 p2 p3 p4 p8 := by
      unfold TK
      rw [c _ (by omega) (by omega), c _ (by omega) (by omega), c _ (by omega) (by omega), c _ (by omega) (by omega), c _ (by omega) (by omega), e1, e2, e3, e4, e8]
      exact t
    refine Or.inr ⟨l1, p1, p2, p3, p4, p8, ⟨t', by rw [c _ (by omega) (by omega)]; exact q, cd, ?_, ?_, ?_⟩, by omega, ?_⟩
    · unfold PT
      rw [e1, e2, e8, g8]
      exact pt
    · rw [c _ (by omega) (by omega), g8]; exact hN
    · rw [e1, e2, e3, e4, g8]
      exact fu
    · rcases ls with ⟨a, b⟩ | ⟨a1, a2, a3, r1, r2, r3, j1, j2, j3, j4⟩
      · exact Or.inl ⟨by rw [c _ (by omega) (by omega)]; exact a, by rw [c _ (by omega) (by omega)]; exact b⟩
      · obtain ⟨⟨v1, v2, v3⟩, sv, zv⟩ := id j4.1
        have u1 : h' r1 = h r1 := funext fun s => f _ s (Or.inr (Or.inr (Or.inr ⟨a2, Or.inl v1.symm⟩)))
        have u2 : h' r2 = h r2 := funext fun s => f _ s (Or.inr (Or.inr (Or.inr ⟨a2, Or.inr (Or.inl v2.symm)⟩)))
        have u3 : h' r3 = h r3 := funext fun s => f _ s (Or.inr (Or.inr (Or.inr ⟨a2, Or.inr (Or.inr v3.symm)⟩)))
        refine Or.inr ⟨a1, by rw [c _ (by omega) (by omega)]; exact a2, by rw [c _ (by omega) (by omega)]; omega, r1, r2, r3, t', j2, ?_, ?_⟩
        · rw [g8, e1, e2]; exact j3
        · refine ⟨?_, ?_⟩
          · unfold TL
            rw [c _ (by omega) (by omega), c _ (by omega) (by omega), c _ (by omega) (by omega), u1, u2, u3]
            exact j4.1
          · unfold PL
            rw [c _ (by omega) (by omega), c _ (by omega) (by omega), g8, e1, e2, u1, u2, u3]
            exact j4.2
theorem owM_b {h : AH} {L : Nat} (w : MBS h L) {a : Int} (o : owM h a) : 1078 ≤ a ∧ a < h 0 0 := by
  rcases w.2 with ⟨l0, m0, m1, m2, m3, m4⟩ | ⟨l1, p1, p2, p3, p4, p8, ⟨t, q, cd, pt, hN, fu⟩, hb, ls⟩
  · rcases o with o | o
    · exact absurd m0 o.1
    · exact absurd m3 o.1
  · obtain ⟨⟨k1, k2, k3, k4, k8⟩, _, z1, z2, z3, z4, z8⟩ := t
    rcases o with o | o
    · omega
    · rcases ls with ⟨a, b⟩ | ⟨a1, a2, a3, r1, r2, r3, j1, j2, j3, j4⟩
      · exact absurd a o.1
      · obtain ⟨⟨v1, v2, v3⟩, sv, zv⟩ := id j4.1
        omega
theorem MBS_f {h h' : AH} {L : Nat} (w : MBS h L) (f : ∀ a s, ¬ (a = 454 ∧ (s = 137 ∨ s = 51)) → ¬ (a = 850 ∧ 0 ≤ s ∧ s < 5) → h' a s = h a s) : MBS h' L :=
  MBS_g w (by rw [f 0 0 (by omega) (by omega)]; exact Int.le_refl _) (fun a s q => by
    rcases q with q | q | q
    · exact f a s (by omega) (by omega)
    · exact f a s (by omega) (by omega)
    · have := owM_b w q
      exact f a s (by omega) (by omega))
theorem us_f {h h' : AH} (f : ∀ s, h' 0 s = h 0 s) (c : h' 454 146 = h 454 146 ∧ h' 454 151 = h 454 151) : usP h h' := by
  unfold usP us1 us2
  rw [f, f, f, c.1, c.2]
  exact ⟨rfl, rfl, Int.le_refl _, Int.le_refl _, Int.le_refl _⟩
theorem owM_f {h h' : AH} (c : ∀ s, 141 ≤ s → s ≤ 153 → h' 454 s = h 454 s) (a : Int) : owM h' a ↔ owM h a := by
  unfold owM
  rw [c _ (by omega) (by omega), c _ (by omega) (by omega), c _ (by omega) (by omega), c _ (by omega) (by omega), c _ (by omega) (by omega), c _ (by omega) (by omega), c _ (by omega) (by omega), c _ (by omega) (by omega), c _ (by omega) (by omega)]
/-- the frame of m's shortest -/
def frY (h h' : AH) : Prop := (∀ a, a ≠ 0 → a < h 0 0 → (owM h' a ↔ owM h a)) ∧ ∀ a s, a ≠ 0 → a < h 0 0 → ¬ owM h a → ¬ (a = 454 ∧ (s = 51 ∨ s = 137 ∨ (141 ≤ s ∧ s ≤ 153))) → a ≠ 871 → ¬ (a = 850 ∧ 0 ≤ s ∧ s < 5) → h' a s = h a s
theorem frY_t {a b c : AH} (l : a 0 0 ≤ b 0 0) (x : frY a b) (y : frY b c) : frY a c := ⟨fun p p0 p1 => (y.1 p p0 (by omega)).trans (x.1 p p0 p1), fun p s p0 p1 p2 p3 p4 p5 => by
  rw [y.2 p s p0 (by omega) (fun q => p2 ((x.1 p p0 p1).mp q)) p3 p4 p5]
  exact x.2 p s p0 p1 p2 p3 p4 p5⟩
theorem frY_x {h h' : AH} (f : (∀ a, a ≠ 0 → a < h 0 0 → (owM h' a ↔ owM h a)) ∧ frX9 h h') : frY h h' := ⟨f.1, fun p s p0 p1 p2 p3 p4 p5 => f.2 p s p0 p1 p2 (by omega) p4⟩
theorem frY_f {h h' : AH} (f : ∀ a s, ¬ (a = 454 ∧ (s = 137 ∨ s = 51)) → ¬ (a = 850 ∧ 0 ≤ s ∧ s < 5) → h' a s = h a s) : frY h h' := ⟨fun a _ _ => owM_f (fun s s0 s1 => f _ _ (by omega) (by omega)) a, fun p s p0 p1 p2 p3 p4 p5 => f p s (by omega) p5⟩
theorem nat_of {x : Int} {m : Nat} (h : x = m) : m = x.toNat := by omega
theorem vX14_shortest (a1 : Int) (a3 : Int) {h : AH} (hd : h 454 54 = 0 ∨ h 454 54 = 1) (hg : jr64 a1) (hs : ∃ L, MBS h L) (hu : usR h) : OK (gX14_shortest a1 a3 h) (fun r => jt2 r fun v h' => (h 454 54 = 1 → v = -5) ∧ (h 454 54 = 0 → a3 < 0 ∨ 5 < a3 → v = -1) ∧ (h 454 54 = 0 → ∀ n C most : Nat, a3 = most → most ≤ 5 → frsL a1 most n C → v = n ∧ tldM h' n C) ∧ (h 454 54 = 0 → ∀ most : Nat, a3 = most → most ≤ 5 → nohL a1 most → v = 100) ∧ ((¬ h 454 54 = 0 ∨ v = -1 ∨ v = 100) → h' 454 137 = h 454 137 ∧ ∀ s, h' 850 s = h 850 s) ∧ (∃ L, MBS h' L) ∧ (usP h h') ∧ (frY h h')) := by
  unfold gX14_shortest
  refine OK_jb2 (vX14_isDown (by (first | (exact hs1) | (exact U3) | (exact Y3) | (exact fun _ => S3) | ((intro z1 n C most hm m5 z; exfalso; omega)) | ((intro z1 most hm m5 z; exfalso; omega)) | (first | assumption | omega | ((try dsimp only [jt2, jt3, jt4]); first | omega | (simp (disch := omega) only [jst_eq, jst_ne, jst_ni, jst_o, jI_i, jcpy_out, w32_id, jdiv_nn, jshr_k, jand_255] <;> first | done | omega | assumption)) | (intros; simp (disch := omega) only [jst_eq, jst_ne, jst_ni, jst_o, jI_i, jcpy_out, w32_id, jdiv_nn, *] <;> first | done | omega) | (intros; simp (disch := omega) only [jst_eq, jst_ne, jst_ni, jst_o, jI_i, jcpy_out, w32_id, jdiv_nn] at * <;> first | done | omega | assumption) | (intros; first | rfl | (exfalso; omega) | ((repeat' apply And.intro) <;> first | assumption | rfl | omega | trivial)))))) (fun v2 h3 r1 => ?_)
  try dsimp only [Sum.elim_inl, Sum.elim_inr, jt2, jt3, jt4, jt5, jt6, jt7, jt8] at r1
  obtain ⟨dv1, dh1⟩ := r1
  try simp (disch := omega) only [jst_eq, jst_ne, jst_ni, jI_i, jcmp_lt, jcmp_gt, w32_id, jcpy_out, Sum.elim_inl, Sum.elim_inr, jt2, jt3, jt4, jt5, jt6, jt7, jt8] at dv1
  try simp (disch := omega) only [jst_eq, jst_ne, jst_ni, jI_i, jcmp_lt, jcmp_gt, w32_id, jcpy_out, Sum.elim_inl, Sum.elim_inr, jt2, jt3, jt4, jt5, jt6, jt7, jt8] at dh1
  subst dh1
  have hz0 : 1078 ≤ h 0 0 := by { obtain ⟨L, w⟩ := hs; exact w.1 }
  have F3 : ∀ a s, ¬ (a = 454 ∧ (s = 137 ∨ s = 51)) → ¬ (a = 850 ∧ 0 ≤ s ∧ s < 5) → jst h 454 51 0 a s = h a s := fun a s y1 y2 => jst_o (by omega)
  have hs1 : ∃ L, MBS (jst h 454 51 0) L := by { obtain ⟨L, w⟩ := hs; exact ⟨L, MBS_f w F3⟩ }
  have U3 : usP h (jst h 454 51 0) := us_f (fun s => F3 _ _ (by omega) (by omega)) ⟨F3 _ _ (by omega) (by omega), F3 _ _ (by omega) (by omega)⟩
  have hu1 := usR_t hu U3
  have Y3 := frY_f F3
  have S3 : jst h 454 51 0 454 137 = h 454 137 ∧ ∀ s, jst h 454 51 0 850 s = h 850 s := ⟨jst_ni (by decide), fun s => jst_ne (by decide)⟩
  generalize eg : jst h 454 51 0 = g3 at *
  refine OK_if (fun c1 => ?_) (fun c1 => ?_)
  · skip
    try simp (disch := omega) only [jst_eq, jst_ne, jst_ni, jI_i, jcmp_lt, jcmp_gt, w32_id, jcpy_out, Sum.elim_inl, Sum.elim_inr, jt2, jt3, jt4, jt5, jt6, jt7, jt8] at c1
    refine OK_jb (vX14_in _ _ _) (fun v6 r2 => ?_)
    try dsimp only [Sum.elim_inl, Sum.elim_inr, jt2, jt3, jt4, jt5, jt6, jt7, jt8] at r2
    have v2 := r2
    clear r2
    try simp (disch := omega) only [jst_eq, jst_ne, jst_ni, jI_i, jcmp_lt, jcmp_gt, w32_id, jcpy_out, Sum.elim_inl, Sum.elim_inr, jt2, jt3, jt4, jt5, jt6, jt7, jt8] at v2
    refine OK_if (fun c2 => ?_) (fun c2 => ?_)
    · skip
      try simp (disch := omega) only [jst_eq, jst_ne, jst_ni, jI_i, jcmp_lt, jcmp_gt, w32_id, jcpy_out, Sum.elim_inl, Sum.elim_inr, jt2, jt3, jt4, jt5, jt6, jt7, jt8] at c2
      refine OK_some ?_
      try dsimp only [Sum.elim_inl, Sum.elim_inr, jt2, jt3, jt4, jt5, jt6, jt7, jt8]
      try dsimp only [Sum.elim_inl, Sum.elim_inr, jt2, jt3, jt4, jt5, jt6, jt7, jt8]
      refine ⟨?_, ?_, ?_, ?_, ?_, ?_, ?_, ?_⟩
      · (first | (exact hs1) | (exact U3) | (exact Y3) | (exact fun _ => S3) | ((intro z1 n C most hm m5 z; exfalso; omega)) | ((intro z1 most hm m5 z; exfalso; omega)) | (first | assumption | omega | ((try dsimp only [jt2, jt3, jt4]); first | omega | (simp (disch := omega) only [jst_eq, jst_ne, jst_ni, jst_o, jI_i, jcpy_out, w32_id, jdiv_nn, jshr_k, jand_255] <;> first | done | omega | assumption)) | (intros; simp (disch := omega) only [jst_eq, jst_ne, jst_ni, jst_o, jI_i, jcpy_out, w32_id, jdiv_nn, *] <;> first | done | omega) | (intros; simp (disch := omega) only [jst_eq, jst_ne, jst_ni, jst_o, jI_i, jcpy_out, w32_id, jdiv_nn] at * <;> first | done | omega | assumption) | (intros; first | rfl | (exfalso; omega) | ((repeat' apply And.intro) <;> first | assumption | rfl | omega | trivial)))) -- o2 e1.1
      · (first | (exact hs1) | (exact U3) | (exact Y3) | (exact fun _ => S3) | ((intro z1 n C most hm m5 z; exfalso; omega)) | ((intro z1 most hm m5 z; exfalso; omega)) | (first | assumption | omega | ((try dsimp only [jt2, jt3, jt4]); first | omega | (simp (disch := omega) only [jst_eq, jst_ne, jst_ni, jst_o, jI_i, jcpy_out, w32_id, jdiv_nn, jshr_k, jand_255] <;> first | done | omega | assumption)) | (intros; simp (disch := omega) only [jst_eq, jst_ne, jst_ni, jst_o, jI_i, jcpy_out, w32_id, jdiv_nn, *] <;> first | done | omega) | (intros; simp (disch := omega) only [jst_eq, jst_ne, jst_ni, jst_o, jI_i, jcpy_out, w32_id, jdiv_nn] at * <;> first | done | omega | assumption) | (intros; first | rfl | (exfalso; omega) | ((repeat' apply And.intro) <;> first | assumption | rfl | omega | trivial)))) -- o3 e1.2
      · (first | (exact hs1) | (exact U3) | (exact Y3) | (exact fun _ => S3) | ((intro z1 n C most hm m5 z; exfalso; omega)) | ((intro z1 most hm m5 z; exfalso; omega)) | (first | assumption | omega | ((try dsimp only [jt2, jt3, jt4]); first | omega | (simp (disch := omega) only [jst_eq, jst_ne, jst_ni, jst_o, jI_i, jcpy_out, w32_id, jdiv_nn, jshr_k, jand_255] <;> first | done | omega | assumption)) | (intros; simp (disch := omega) only [jst_eq, jst_ne, jst_ni, jst_o, jI_i, jcpy_out, w32_id, jdiv_nn, *] <;> first | done | omega) | (intros; simp (disch := omega) only [jst_eq, jst_ne, jst_ni, jst_o, jI_i, jcpy_out, w32_id, jdiv_nn] at * <;> first | done | omega | assumption) | (intros; first | rfl | (exfalso; omega) | ((repeat' apply And.intro) <;> first | assumption | rfl | omega | trivial)))) -- o4 e1.3
      · (first | (exact hs1) | (exact U3) | (exact Y3) | (exact fun _ => S3) | ((intro z1 n C most hm m5 z; exfalso; omega)) | ((intro z1 most hm m5 z; exfalso; omega)) | (first | assumption | omega | ((try dsimp only [jt2, jt3, jt4]); first | omega | (simp (disch := omega) only [jst_eq, jst_ne, jst_ni, jst_o, jI_i, jcpy_out, w32_id, jdiv_nn, jshr_k, jand_255] <;> first | done | omega | assumption)) | (intros; simp (disch := omega) only [jst_eq, jst_ne, jst_ni, jst_o, jI_i, jcpy_out, w32_id, jdiv_nn, *] <;> first | done | omega) | (intros; simp (disch := omega) only [jst_eq, jst_ne, jst_ni, jst_o, jI_i, jcpy_out, w32_id, jdiv_nn] at * <;> first | done | omega | assumption) | (intros; first | rfl | (exfalso; omega) | ((repeat' apply And.intro) <;> first | assumption | rfl | omega | trivial)))) -- o5 e1.4
      · (first | (exact hs1) | (exact U3) | (exact Y3) | (exact fun _ => S3) | ((intro z1 n C most hm m5 z; exfalso; omega)) | ((intro z1 most hm m5 z; exfalso; omega)) | (first | assumption | omega | ((try dsimp only [jt2, jt3, jt4]); first | omega | (simp (disch := omega) only [jst_eq, jst_ne, jst_ni, jst_o, jI_i, jcpy_out, w32_id, jdiv_nn, jshr_k, jand_255] <;> first | done | omega | assumption)) | (intros; simp (disch := omega) only [jst_eq, jst_ne, jst_ni, jst_o, jI_i, jcpy_out, w32_id, jdiv_nn, *] <;> first | done | omega) | (intros; simp (disch := omega) only [jst_eq, jst_ne, jst_ni, jst_o, jI_i, jcpy_out, w32_id, jdiv_nn] at * <;> first | done | omega | assumption) | (intros; first | rfl | (exfalso; omega) | ((repeat' apply And.intro) <;> first | assumption | rfl | omega | trivial)))) -- o6 e1.5
      · (first | (exact hs1) | (exact U3) | (exact Y3) | (exact fun _ => S3) | ((intro z1 n C most hm m5 z; exfalso; omega)) | ((intro z1 most hm m5 z; exfalso; omega)) | (first | assumption | omega | ((try dsimp only [jt2, jt3, jt4]); first | omega | (simp (disch := omega) only [jst_eq, jst_ne, jst_ni, jst_o, jI_i, jcpy_out, w32_id, jdiv_nn, jshr_k, jand_255] <;> first | done | omega | assumption)) | (intros; simp (disch := omega) only [jst_eq, jst_ne, jst_ni, jst_o, jI_i, jcpy_out, w32_id, jdiv_nn, *] <;> first | done | omega) | (intros; simp (disch := omega) only [jst_eq, jst_ne, jst_ni, jst_o, jI_i, jcpy_out, w32_id, jdiv_nn] at * <;> first | done | omega | assumption) | (intros; first | rfl | (exfalso; omega) | ((repeat' apply And.intro) <;> first | assumption | rfl | omega | trivial)))) -- o7 e1.6
      · (first | (exact hs1) | (exact U3) | (exact Y3) | (exact fun _ => S3) | ((intro z1 n C most hm m5 z; exfalso; omega)) | ((intro z1 most hm m5 z; exfalso; omega)) | (first | assumption | omega | ((try dsimp only [jt2, jt3, jt4]); first | omega | (simp (disch := omega) only [jst_eq, jst_ne, jst_ni, jst_o, jI_i, jcpy_out, w32_id, jdiv_nn, jshr_k, jand_255] <;> first | done | omega | assumption)) | (intros; simp (disch := omega) only [jst_eq, jst_ne, jst_ni, jst_o, jI_i, jcpy_out, w32_id, jdiv_nn, *] <;> first | done | omega) | (intros; simp (disch := omega) only [jst_eq, jst_ne, jst_ni, jst_o, jI_i, jcpy_out, w32_id, jdiv_nn] at * <;> first | done | omega | assumption) | (intros; first | rfl | (exfalso; omega) | ((repeat' apply And.intro) <;> first | assumption | rfl | omega | trivial)))) -- o8 e1.7
      · (first | (exact hs1) | (exact U3) | (exact Y3) | (exact fun _ => S3) | ((intro z1 n C most hm m5 z; exfalso; omega)) | ((intro z1 most hm m5 z; exfalso; omega)) | (first | assumption | omega | ((try dsimp only [jt2, jt3, jt4]); first | omega | (simp (disch := omega) only [jst_eq, jst_ne, jst_ni, jst_o, jI_i, jcpy_out, w32_id, jdiv_nn, jshr_k, jand_255] <;> first | done | omega | assumption)) | (intros; simp (disch := omega) only [jst_eq, jst_ne, jst_ni, jst_o, jI_i, jcpy_out, w32_id, jdiv_nn, *] <;> first | done | omega) | (intros; simp (disch := omega) only [jst_eq, jst_ne, jst_ni, jst_o, jI_i, jcpy_out, w32_id, jdiv_nn] at * <;> first | done | omega | assumption) | (intros; first | rfl | (exfalso; omega) | ((repeat' apply And.intro) <;> first | assumption | rfl | omega | trivial)))) -- o9 e1.8
    · skip
      try simp (disch := omega) only [jst_eq, jst_ne, jst_ni, jI_i, jcmp_lt, jcmp_gt, w32_id, jcpy_out, Sum.elim_inl, Sum.elim_inr, jt2, jt3, jt4, jt5, jt6, jt7, jt8] at c2
      refine OK_jb (vX14_shortest_l27 (most := a3.toNat) _ _ _ (by exact ⟨by omega, by omega⟩) (by (first | (exact hs1) | (exact U3) | (exact Y3) | (exact fun _ => S3) | ((intro z1 n C most hm m5 z; exfalso; omega)) | ((intro z1 most hm m5 z; exfalso; omega)) | (first | assumption | omega | ((try dsimp only [jt2, jt3, jt4]); first | omega | (simp (disch := omega) only [jst_eq, jst_ne, jst_ni, jst_o, jI_i, jcpy_out, w32_id, jdiv_nn, jshr_k, jand_255] <;> first | done | omega | assumption)) | (intros; simp (disch := omega) only [jst_eq, jst_ne, jst_ni, jst_o, jI_i, jcpy_out, w32_id, jdiv_nn, *] <;> first | done | omega) | (intros; simp (disch := omega) only [jst_eq, jst_ne, jst_ni, jst_o, jI_i, jcpy_out, w32_id, jdiv_nn] at * <;> first | done | omega | assumption) | (intros; first | rfl | (exfalso; omega) | ((repeat' apply And.intro) <;> first | assumption | rfl | omega | trivial))))) (by exact hs1) (by exact hu1)) (fun o8 r3 => ?_)
      rcases o8 with o10 | o11
      · skip
        have r4 := r3; clear r3
        dsimp only [Sum.elim_inl, Sum.elim_inr] at r4
        refine OK_jml ?_
        obtain ⟨y12, y13, h14⟩ := o10
        refine OK_jt3 ?_
        try dsimp only [Sum.elim_inl, Sum.elim_inr, jt2, jt3, jt4, jt5, jt6, jt7, jt8] at r4
        obtain ⟨fo3, us3, fr3⟩ := r4
        try simp (disch := omega) only [jst_eq, jst_ne, jst_ni, jI_i, jcmp_lt, jcmp_gt, w32_id, jcpy_out, Sum.elim_inl, Sum.elim_inr, jt2, jt3, jt4, jt5, jt6, jt7, jt8] at fo3
        try simp (disch := omega) only [jst_eq, jst_ne, jst_ni, jI_i, jcmp_lt, jcmp_gt, w32_id, jcpy_out, Sum.elim_inl, Sum.elim_inr, jt2, jt3, jt4, jt5, jt6, jt7, jt8] at us3
        try simp (disch := omega) only [jst_eq, jst_ne, jst_ni, jI_i, jcmp_lt, jcmp_gt, w32_id, jcpy_out, Sum.elim_inl, Sum.elim_inr, jt2, jt3, jt4, jt5, jt6, jt7, jt8] at fr3
        obtain ⟨p1, p2, p3, p4, p8, LL, nn, cd, ⟨fo0, fo4, fo5, fo6⟩, foM, foT, foF, foL, foR⟩ := fo3
        obtain ⟨CC, eC⟩ : ∃ CC, CC = cd y13 := ⟨_, rfl⟩
        refine OK_jb2 (vX14_tellRow (p1 := p1) (p2 := p2) (p3 := p3) (p4 := p4) (p8 := p8) (cd := cd) (L := LL) (n := nn) (C := CC) _ _ _ (by exact foT) (by exact foF) (by exact fo6) (by exact ⟨fo0, Or.inl ⟨fo4, fo5, foL, eC⟩⟩)) (fun v16 h17 r5 => ?_)
        try dsimp only [Sum.elim_inl, Sum.elim_inr, jt2, jt3, jt4, jt5, jt6, jt7, jt8] at r5
        obtain ⟨v4, fr4⟩ := r5
        try simp (disch := omega) only [jst_eq, jst_ne, jst_ni, jI_i, jcmp_lt, jcmp_gt, w32_id, jcpy_out, Sum.elim_inl, Sum.elim_inr, jt2, jt3, jt4, jt5, jt6, jt7, jt8] at v4
        try simp (disch := omega) only [jst_eq, jst_ne, jst_ni, jI_i, jcmp_lt, jcmp_gt, w32_id, jcpy_out, Sum.elim_inl, Sum.elim_inr, jt2, jt3, jt4, jt5, jt6, jt7, jt8] at fr4
        refine OK_some ?_
        try dsimp only [Sum.elim_inl, Sum.elim_inr, jt2, jt3, jt4, jt5, jt6, jt7, jt8]
        try dsimp only [Sum.elim_inl, Sum.elim_inr, jt2, jt3, jt4, jt5, jt6, jt7, jt8]
        refine ⟨?_, ?_, ?_, ?_, ?_, ?_, ?_, ?_⟩
        · (first | (exact hs1) | (exact U3) | (exact Y3) | (exact fun _ => S3) | ((intro z1 n C most hm m5 z; exfalso; omega)) | ((intro z1 most hm m5 z; exfalso; omega)) | (first | assumption | omega | ((try dsimp only [jt2, jt3, jt4]); first | omega | (simp (disch := omega) only [jst_eq, jst_ne, jst_ni, jst_o, jI_i, jcpy_out, w32_id, jdiv_nn, jshr_k, jand_255] <;> first | done | omega | assumption)) | (intros; simp (disch := omega) only [jst_eq, jst_ne, jst_ni, jst_o, jI_i, jcpy_out, w32_id, jdiv_nn, *] <;> first | done | omega) | (intros; simp (disch := omega) only [jst_eq, jst_ne, jst_ni, jst_o, jI_i, jcpy_out, w32_id, jdiv_nn] at * <;> first | done | omega | assumption) | (intros; first | rfl | (exfalso; omega) | ((repeat' apply And.intro) <;> first | assumption | rfl | omega | trivial)))) -- o18 e2.1
        · (first | (exact hs1) | (exact U3) | (exact Y3) | (exact fun _ => S3) | ((intro z1 n C most hm m5 z; exfalso; omega)) | ((intro z1 most hm m5 z; exfalso; omega)) | (first | assumption | omega | ((try dsimp only [jt2, jt3, jt4]); first | omega | (simp (disch := omega) only [jst_eq, jst_ne, jst_ni, jst_o, jI_i, jcpy_out, w32_id, jdiv_nn, jshr_k, jand_255] <;> first | done | omega | assumption)) | (intros; simp (disch := omega) only [jst_eq, jst_ne, jst_ni, jst_o, jI_i, jcpy_out, w32_id, jdiv_nn, *] <;> first | done | omega) | (intros; simp (disch := omega) only [jst_eq, jst_ne, jst_ni, jst_o, jI_i, jcpy_out, w32_id, jdiv_nn] at * <;> first | done | omega | assumption) | (intros; first | rfl | (exfalso; omega) | ((repeat' apply And.intro) <;> first | assumption | rfl | omega | trivial)))) -- o19 e2.2
        · (intro _ n C most hm m5 z; rw [nat_of hm] at z; obtain ⟨q1, q2⟩ := frsL_u foR z; subst q1; subst q2; rw [eC] at v4; exact v4) -- o20 e2.3
        · (intro _ most hm m5 z; rw [nat_of hm] at z; exact (frsL_no foR z).elim) -- o21 e2.4
        · (intro z; exfalso; have := v4.1; omega) -- o22 e2.5
        · exact ⟨LL, MBS_f foM (fun a s y1 y2 => fr4 a s (by omega) y2)⟩ -- o23 e2.6
        · exact usP_t U3 (usP_t us3 (us_f (fun s => fr4 _ _ (by omega) (by omega)) ⟨fr4 _ _ (by omega) (by omega), fr4 _ _ (by omega) (by omega)⟩)) -- o24 e2.7
        · exact frY_t U3.2.2.1 Y3 (frY_t us3.2.2.1 (frY_x fr3) (frY_f (fun a s y1 y2 => fr4 a s (by omega) y2))) -- o25 e2.8
      · skip
        have r6 := r3; clear r3
        dsimp only [Sum.elim_inl, Sum.elim_inr] at r6
        try dsimp only [Sum.elim_inl, Sum.elim_inr, jt2, jt3, jt4, jt5, jt6, jt7, jt8] at r6
        obtain ⟨no5, us5, fr5⟩ := r6
        try simp (disch := omega) only [jst_eq, jst_ne, jst_ni, jI_i, jcmp_lt, jcmp_gt, w32_id, jcpy_out, Sum.elim_inl, Sum.elim_inr, jt2, jt3, jt4, jt5, jt6, jt7, jt8] at no5
        try simp (disch := omega) only [jst_eq, jst_ne, jst_ni, jI_i, jcmp_lt, jcmp_gt, w32_id, jcpy_out, Sum.elim_inl, Sum.elim_inr, jt2, jt3, jt4, jt5, jt6, jt7, jt8] at us5
        try simp (disch := omega) only [jst_eq, jst_ne, jst_ni, jI_i, jcmp_lt, jcmp_gt, w32_id, jcpy_out, Sum.elim_inl, Sum.elim_inr, jt2, jt3, jt4, jt5, jt6, jt7, jt8] at fr5
        refine OK_jmr ?_
        unfold gX14_shortest_j109
        refine OK_if (fun c3 => ?_) (fun c3 => ?_)
        · skip
          try simp (disch := omega) only [jst_eq, jst_ne, jst_ni, jI_i, jcmp_lt, jcmp_gt, w32_id, jcpy_out, Sum.elim_inl, Sum.elim_inr, jt2, jt3, jt4, jt5, jt6, jt7, jt8] at c3
          obtain ⟨LL, noM, no5e, noH⟩ := no5
          have L5 : LL = 5 := no5e (by omega)
          subst L5
          obtain ⟨p1, p2, p3, p4, p8, MI⟩ := MBS_p noM (by omega)
          have noK : ∀ n', n' < 5 → ∀ C', ¬ hitL a1 n' C' := fun n' l => noH n' (by omega) (by omega)
          refine OK_jb2 (vX14_lastOf (p1 := p1) (p2 := p2) (p3 := p3) (p4 := p4) (p8 := p8) _ (by exact MI) (by exact usR_t hu1 us5) (by (first | (exact hs1) | (exact U3) | (exact Y3) | (exact fun _ => S3) | ((intro z1 n C most hm m5 z; exfalso; omega)) | ((intro z1 most hm m5 z; exfalso; omega)) | (first | assumption | omega | ((try dsimp only [jt2, jt3, jt4]); first | omega | (simp (disch := omega) only [jst_eq, jst_ne, jst_ni, jst_o, jI_i, jcpy_out, w32_id, jdiv_nn, jshr_k, jand_255] <;> first | done | omega | assumption)) | (intros; simp (disch := omega) only [jst_eq, jst_ne, jst_ni, jst_o, jI_i, jcpy_out, w32_id, jdiv_nn, *] <;> first | done | omega) | (intros; simp (disch := omega) only [jst_eq, jst_ne, jst_ni, jst_o, jI_i, jcpy_out, w32_id, jdiv_nn] at * <;> first | done | omega | assumption) | (intros; first | rfl | (exfalso; omega) | ((repeat' apply And.intro) <;> first | assumption | rfl | omega | trivial)))))) (fun v20 h21 r7 => ?_)
          try dsimp only [Sum.elim_inl, Sum.elim_inr, jt2, jt3, jt4, jt5, jt6, jt7, jt8] at r7
          obtain ⟨v6, m6, us6, fr6⟩ := r7
          try simp (disch := omega) only [jst_eq, jst_ne, jst_ni, jI_i, jcmp_lt, jcmp_gt, w32_id, jcpy_out, Sum.elim_inl, Sum.elim_inr, jt2, jt3, jt4, jt5, jt6, jt7, jt8] at v6
          try simp (disch := omega) only [jst_eq, jst_ne, jst_ni, jI_i, jcmp_lt, jcmp_gt, w32_id, jcpy_out, Sum.elim_inl, Sum.elim_inr, jt2, jt3, jt4, jt5, jt6, jt7, jt8] at m6
          try simp (disch := omega) only [jst_eq, jst_ne, jst_ni, jI_i, jcmp_lt, jcmp_gt, w32_id, jcpy_out, Sum.elim_inl, Sum.elim_inr, jt2, jt3, jt4, jt5, jt6, jt7, jt8] at us6
          try simp (disch := omega) only [jst_eq, jst_ne, jst_ni, jI_i, jcmp_lt, jcmp_gt, w32_id, jcpy_out, Sum.elim_inl, Sum.elim_inr, jt2, jt3, jt4, jt5, jt6, jt7, jt8] at fr6
          obtain ⟨⟨foT, q, cd, pt, hN, foF⟩, hb8, ls⟩ := id m6
          have GR := (MBI_g m6.1).1
          have Y6 : frY o11 h21 := ⟨fr6.1, fun p s p0 p1 p2 p3 p4 p5 => fr6.2 p s p0 p1 (by omega)⟩
          have U6 : usP h h21 := usP_t U3 (usP_t us5 us6)
          have W6 : frY h h21 := frY_t U3.2.2.1 Y3 (frY_t us5.2.2.1 (frY_x fr5) Y6)
          have M6 : ∃ L, MBS h21 L := ⟨5, by obtain ⟨L, w⟩ := hs; have z1 := w.1; have z2 := U6.2.2.1; omega, Or.inr ⟨by decide, p1, p2, p3, p4, p8, m6⟩⟩
          unfold gX14_shortest_j123
          refine OK_if (fun c4 => ?_) (fun c4 => ?_)
          · skip
            try simp (disch := omega) only [jst_eq, jst_ne, jst_ni, jI_i, jcmp_lt, jcmp_gt, w32_id, jcpy_out, Sum.elim_inl, Sum.elim_inr, jt2, jt3, jt4, jt5, jt6, jt7, jt8] at c4
            obtain ⟨k, x, ⟨k0, k1, x18⟩, ev, ak, fi⟩ := v6.resolve_left (fun z => by omega)
            have kb := (GR k k0 k1).2
            have D : jdiv v20 32 = k := by { rw [jdiv_nn c4 (by omega) (by decide) (by decide)]; omega }
            have R : jrem v20 32 = x := by { rw [jrem_nn c4 (by omega) (by decide) (by decide)]; omega }
            obtain ⟨LL, nn, CC, eL, en, eC⟩ : ∃ LL nn CC : Nat, LL = 5 ∧ nn = 5 ∧ CC = 18 * cd k + x := ⟨5, 5, _, rfl, rfl, rfl⟩
            refine OK_jb2 (vX14_tellRow (p1 := p1) (p2 := p2) (p3 := p3) (p4 := p4) (p8 := p8) (cd := cd) (L := LL) (n := nn) (C := CC) _ _ _ (by exact foT) (by (rw [eL]; exact foF)) (by omega) (by (rw [D, R]; exact ⟨by rw [en]; rfl, Or.inr ⟨en, eL, ⟨k0, k1⟩, ⟨by omega, by omega⟩, by rw [eC]; congr 1⟩⟩))) (fun v24 h25 r8 => ?_)
            try dsimp only [Sum.elim_inl, Sum.elim_inr, jt2, jt3, jt4, jt5, jt6, jt7, jt8] at r8
            obtain ⟨v7, fr7⟩ := r8
            try simp (disch := omega) only [jst_eq, jst_ne, jst_ni, jI_i, jcmp_lt, jcmp_gt, w32_id, jcpy_out, Sum.elim_inl, Sum.elim_inr, jt2, jt3, jt4, jt5, jt6, jt7, jt8] at v7
            try simp (disch := omega) only [jst_eq, jst_ne, jst_ni, jI_i, jcmp_lt, jcmp_gt, w32_id, jcpy_out, Sum.elim_inl, Sum.elim_inr, jt2, jt3, jt4, jt5, jt6, jt7, jt8] at fr7
            refine OK_some ?_
            try dsimp only [Sum.elim_inl, Sum.elim_inr, jt2, jt3, jt4, jt5, jt6, jt7, jt8]
            try dsimp only [Sum.elim_inl, Sum.elim_inr, jt2, jt3, jt4, jt5, jt6, jt7, jt8]
            refine ⟨?_, ?_, ?_, ?_, ?_, ?_, ?_, ?_⟩
            · (first | (exact hs1) | (exact U3) | (exact Y3) | (exact fun _ => S3) | ((intro z1 n C most hm m5 z; exfalso; omega)) | ((intro z1 most hm m5 z; exfalso; omega)) | (first | assumption | omega | ((try dsimp only [jt2, jt3, jt4]); first | omega | (simp (disch := omega) only [jst_eq, jst_ne, jst_ni, jst_o, jI_i, jcpy_out, w32_id, jdiv_nn, jshr_k, jand_255] <;> first | done | omega | assumption)) | (intros; simp (disch := omega) only [jst_eq, jst_ne, jst_ni, jst_o, jI_i, jcpy_out, w32_id, jdiv_nn, *] <;> first | done | omega) | (intros; simp (disch := omega) only [jst_eq, jst_ne, jst_ni, jst_o, jI_i, jcpy_out, w32_id, jdiv_nn] at * <;> first | done | omega | assumption) | (intros; first | rfl | (exfalso; omega) | ((repeat' apply And.intro) <;> first | assumption | rfl | omega | trivial)))) -- o33 e3.1
            · (first | (exact hs1) | (exact U3) | (exact Y3) | (exact fun _ => S3) | ((intro z1 n C most hm m5 z; exfalso; omega)) | ((intro z1 most hm m5 z; exfalso; omega)) | (first | assumption | omega | ((try dsimp only [jt2, jt3, jt4]); first | omega | (simp (disch := omega) only [jst_eq, jst_ne, jst_ni, jst_o, jI_i, jcpy_out, w32_id, jdiv_nn, jshr_k, jand_255] <;> first | done | omega | assumption)) | (intros; simp (disch := omega) only [jst_eq, jst_ne, jst_ni, jst_o, jI_i, jcpy_out, w32_id, jdiv_nn, *] <;> first | done | omega) | (intros; simp (disch := omega) only [jst_eq, jst_ne, jst_ni, jst_o, jI_i, jcpy_out, w32_id, jdiv_nn] at * <;> first | done | omega | assumption) | (intros; first | rfl | (exfalso; omega) | ((repeat' apply And.intro) <;> first | assumption | rfl | omega | trivial)))) -- o34 e3.2
            · (intro _ n C most hm m5 z; have FF := FUL_5f foF noK ⟨k0, k1⟩ x18 ak fi; rw [nat_of hm, show a3.toNat = 5 by omega] at z; obtain ⟨q1, q2⟩ := frsL_u FF z; subst q1; subst q2; rw [en, eC] at v7; exact v7) -- o35 e3.3
            · (intro _ most hm m5 z; have FF := FUL_5f foF noK ⟨k0, k1⟩ x18 ak fi; rw [nat_of hm, show a3.toNat = 5 by omega] at z; exact (frsL_no FF z).elim) -- o36 e3.4
            · (intro z; exfalso; have := v7.1; omega) -- o37 e3.5
            · (obtain ⟨L, w⟩ := M6; exact ⟨L, MBS_f w (fun a s y1 y2 => fr7 a s (by omega) y2)⟩) -- o38 e3.6
            · exact usP_t U6 (us_f (fun s => fr7 _ _ (by omega) (by omega)) ⟨fr7 _ _ (by omega) (by omega), fr7 _ _ (by omega) (by omega)⟩) -- o39 e3.7
            · exact frY_t U6.2.2.1 W6 (frY_f (fun a s y1 y2 => fr7 a s (by omega) y2)) -- o40 e3.8
          · skip
            try simp (disch := omega) only [jst_eq, jst_ne, jst_ni, jI_i, jcmp_lt, jcmp_gt, w32_id, jcpy_out, Sum.elim_inl, Sum.elim_inr, jt2, jt3, jt4, jt5, jt6, jt7, jt8] at c4
            have nv := (v6.resolve_right (fun ⟨k, x, ⟨k0, k1, x18⟩, ev, _⟩ => by have := (GR k k0 k1).2; omega)).2
            refine OK_some ?_
            try dsimp only [Sum.elim_inl, Sum.elim_inr, jt2, jt3, jt4, jt5, jt6, jt7, jt8]
            try dsimp only [Sum.elim_inl, Sum.elim_inr, jt2, jt3, jt4, jt5, jt6, jt7, jt8]
            refine ⟨?_, ?_, ?_, ?_, ?_, ?_, ?_, ?_⟩
            · (first | (exact hs1) | (exact U3) | (exact Y3) | (exact fun _ => S3) | ((intro z1 n C most hm m5 z; exfalso; omega)) | ((intro z1 most hm m5 z; exfalso; omega)) | (first | assumption | omega | ((try dsimp only [jt2, jt3, jt4]); first | omega | (simp (disch := omega) only [jst_eq, jst_ne, jst_ni, jst_o, jI_i, jcpy_out, w32_id, jdiv_nn, jshr_k, jand_255] <;> first | done | omega | assumption)) | (intros; simp (disch := omega) only [jst_eq, jst_ne, jst_ni, jst_o, jI_i, jcpy_out, w32_id, jdiv_nn, *] <;> first | done | omega) | (intros; simp (disch := omega) only [jst_eq, jst_ne, jst_ni, jst_o, jI_i, jcpy_out, w32_id, jdiv_nn] at * <;> first | done | omega | assumption) | (intros; first | rfl | (exfalso; omega) | ((repeat' apply And.intro) <;> first | assumption | rfl | omega | trivial)))) -- o41 e4.1
            · (first | (exact hs1) | (exact U3) | (exact Y3) | (exact fun _ => S3) | ((intro z1 n C most hm m5 z; exfalso; omega)) | ((intro z1 most hm m5 z; exfalso; omega)) | (first | assumption | omega | ((try dsimp only [jt2, jt3, jt4]); first | omega | (simp (disch := omega) only [jst_eq, jst_ne, jst_ni, jst_o, jI_i, jcpy_out, w32_id, jdiv_nn, jshr_k, jand_255] <;> first | done | omega | assumption)) | (intros; simp (disch := omega) only [jst_eq, jst_ne, jst_ni, jst_o, jI_i, jcpy_out, w32_id, jdiv_nn, *] <;> first | done | omega) | (intros; simp (disch := omega) only [jst_eq, jst_ne, jst_ni, jst_o, jI_i, jcpy_out, w32_id, jdiv_nn] at * <;> first | done | omega | assumption) | (intros; first | rfl | (exfalso; omega) | ((repeat' apply And.intro) <;> first | assumption | rfl | omega | trivial)))) -- o42 e4.2
            · (intro _ n C most hm m5 z; exfalso; rw [nat_of hm, show a3.toNat = 5 by omega] at z; by_cases y : n ≤ 4; { exact noK n (by omega) C z.2.1 }; { have e5 : n = 5 := (by have := z.1; omega); subst e5; obtain ⟨e, e0, e1, _, e3⟩ := FUL_5 foF noK z.2.1; exact nv e (C % 18) e0 e1 (Nat.mod_lt _ (by decide)) e3 }) -- o43 e4.3
            · (intro _ _ _ _ _; rfl) -- o44 e4.4
            · (intro _; have gz := U3.2.2.1; have oz := us5.2.2.1; exact ⟨by rw [fr6.2 _ _ (by omega) (by omega) (by omega), fr5.2 _ _ (by omega) (by omega) (fun o => by obtain ⟨L, w⟩ := hs1; have := owM_b w o; omega) (by omega) (by omega)]; exact S3.1, fun s => by rw [fr6.2 _ _ (by omega) (by omega) (by omega), fr5.2 _ _ (by omega) (by omega) (fun o => by obtain ⟨L, w⟩ := hs1; have := owM_b w o; omega) (by omega) (by omega)]; exact S3.2 s⟩) -- o45 e4.5
            · exact M6 -- o46 e4.6
            · exact U6 -- o47 e4.7
            · exact W6 -- o48 e4.8
        · skip
          try simp (disch := omega) only [jst_eq, jst_ne, jst_ni, jI_i, jcmp_lt, jcmp_gt, w32_id, jcpy_out, Sum.elim_inl, Sum.elim_inr, jt2, jt3, jt4, jt5, jt6, jt7, jt8] at c3
          obtain ⟨LL, noM, no5e, noH⟩ := no5
          unfold gX14_shortest_j123
          refine OK_if (fun c5 => ?_) (fun c5 => ?_)
          · skip
            try simp (disch := omega) only [jst_eq, jst_ne, jst_ni, jI_i, jcmp_lt, jcmp_gt, w32_id, jcpy_out, Sum.elim_inl, Sum.elim_inr, jt2, jt3, jt4, jt5, jt6, jt7, jt8] at c5
            exfalso
            omega
          · skip
            try simp (disch := omega) only [jst_eq, jst_ne, jst_ni, jI_i, jcmp_lt, jcmp_gt, w32_id, jcpy_out, Sum.elim_inl, Sum.elim_inr, jt2, jt3, jt4, jt5, jt6, jt7, jt8] at c5
            refine OK_some ?_
            try dsimp only [Sum.elim_inl, Sum.elim_inr, jt2, jt3, jt4, jt5, jt6, jt7, jt8]
            try dsimp only [Sum.elim_inl, Sum.elim_inr, jt2, jt3, jt4, jt5, jt6, jt7, jt8]
            refine ⟨?_, ?_, ?_, ?_, ?_, ?_, ?_, ?_⟩
            · (first | (exact hs1) | (exact U3) | (exact Y3) | (exact fun _ => S3) | ((intro z1 n C most hm m5 z; exfalso; omega)) | ((intro z1 most hm m5 z; exfalso; omega)) | (first | assumption | omega | ((try dsimp only [jt2, jt3, jt4]); first | omega | (simp (disch := omega) only [jst_eq, jst_ne, jst_ni, jst_o, jI_i, jcpy_out, w32_id, jdiv_nn, jshr_k, jand_255] <;> first | done | omega | assumption)) | (intros; simp (disch := omega) only [jst_eq, jst_ne, jst_ni, jst_o, jI_i, jcpy_out, w32_id, jdiv_nn, *] <;> first | done | omega) | (intros; simp (disch := omega) only [jst_eq, jst_ne, jst_ni, jst_o, jI_i, jcpy_out, w32_id, jdiv_nn] at * <;> first | done | omega | assumption) | (intros; first | rfl | (exfalso; omega) | ((repeat' apply And.intro) <;> first | assumption | rfl | omega | trivial)))) -- o49 e5.1
            · (first | (exact hs1) | (exact U3) | (exact Y3) | (exact fun _ => S3) | ((intro z1 n C most hm m5 z; exfalso; omega)) | ((intro z1 most hm m5 z; exfalso; omega)) | (first | assumption | omega | ((try dsimp only [jt2, jt3, jt4]); first | omega | (simp (disch := omega) only [jst_eq, jst_ne, jst_ni, jst_o, jI_i, jcpy_out, w32_id, jdiv_nn, jshr_k, jand_255] <;> first | done | omega | assumption)) | (intros; simp (disch := omega) only [jst_eq, jst_ne, jst_ni, jst_o, jI_i, jcpy_out, w32_id, jdiv_nn, *] <;> first | done | omega) | (intros; simp (disch := omega) only [jst_eq, jst_ne, jst_ni, jst_o, jI_i, jcpy_out, w32_id, jdiv_nn] at * <;> first | done | omega | assumption) | (intros; first | rfl | (exfalso; omega) | ((repeat' apply And.intro) <;> first | assumption | rfl | omega | trivial)))) -- o50 e5.2
            · (intro _ n C most hm m5 z; exfalso; rw [nat_of hm] at z; exact noH n (by have := z.1; omega) z.1 C z.2.1) -- o51 e5.3
            · (intro _ _ _ _ _; rfl) -- o52 e5.4
            · (intro _; have gz := U3.2.2.1; have oz := us5.2.2.1; exact ⟨by rw [fr5.2 _ _ (by omega) (by omega) (fun o => by obtain ⟨L, w⟩ := hs1; have := owM_b w o; omega) (by omega) (by omega)]; exact S3.1, fun s => by rw [fr5.2 _ _ (by omega) (by omega) (fun o => by obtain ⟨L, w⟩ := hs1; have := owM_b w o; omega) (by omega) (by omega)]; exact S3.2 s⟩) -- o53 e5.5
            · exact ⟨LL, noM⟩ -- o54 e5.6
            · exact usP_t U3 us5 -- o55 e5.7
            · exact frY_t U3.2.2.1 Y3 (frY_x fr5) -- o56 e5.8
  · skip
    try simp (disch := omega) only [jst_eq, jst_ne, jst_ni, jI_i, jcmp_lt, jcmp_gt, w32_id, jcpy_out, Sum.elim_inl, Sum.elim_inr, jt2, jt3, jt4, jt5, jt6, jt7, jt8] at c1
    refine OK_some ?_
    try dsimp only [Sum.elim_inl, Sum.elim_inr, jt2, jt3, jt4, jt5, jt6, jt7, jt8]
    try dsimp only [Sum.elim_inl, Sum.elim_inr, jt2, jt3, jt4, jt5, jt6, jt7, jt8]
    refine ⟨?_, ?_, ?_, ?_, ?_, ?_, ?_, ?_⟩
    · (first | (exact hs1) | (exact U3) | (exact Y3) | (exact fun _ => S3) | ((intro z1 n C most hm m5 z; exfalso; omega)) | ((intro z1 most hm m5 z; exfalso; omega)) | (first | assumption | omega | ((try dsimp only [jt2, jt3, jt4]); first | omega | (simp (disch := omega) only [jst_eq, jst_ne, jst_ni, jst_o, jI_i, jcpy_out, w32_id, jdiv_nn, jshr_k, jand_255] <;> first | done | omega | assumption)) | (intros; simp (disch := omega) only [jst_eq, jst_ne, jst_ni, jst_o, jI_i, jcpy_out, w32_id, jdiv_nn, *] <;> first | done | omega) | (intros; simp (disch := omega) only [jst_eq, jst_ne, jst_ni, jst_o, jI_i, jcpy_out, w32_id, jdiv_nn] at * <;> first | done | omega | assumption) | (intros; first | rfl | (exfalso; omega) | ((repeat' apply And.intro) <;> first | assumption | rfl | omega | trivial)))) -- o57 e6.1
    · (first | (exact hs1) | (exact U3) | (exact Y3) | (exact fun _ => S3) | ((intro z1 n C most hm m5 z; exfalso; omega)) | ((intro z1 most hm m5 z; exfalso; omega)) | (first | assumption | omega | ((try dsimp only [jt2, jt3, jt4]); first | omega | (simp (disch := omega) only [jst_eq, jst_ne, jst_ni, jst_o, jI_i, jcpy_out, w32_id, jdiv_nn, jshr_k, jand_255] <;> first | done | omega | assumption)) | (intros; simp (disch := omega) only [jst_eq, jst_ne, jst_ni, jst_o, jI_i, jcpy_out, w32_id, jdiv_nn, *] <;> first | done | omega) | (intros; simp (disch := omega) only [jst_eq, jst_ne, jst_ni, jst_o, jI_i, jcpy_out, w32_id, jdiv_nn] at * <;> first | done | omega | assumption) | (intros; first | rfl | (exfalso; omega) | ((repeat' apply And.intro) <;> first | assumption | rfl | omega | trivial)))) -- o58 e6.2
    · (first | (exact hs1) | (exact U3) | (exact Y3) | (exact fun _ => S3) | ((intro z1 n C most hm m5 z; exfalso; omega)) | ((intro z1 most hm m5 z; exfalso; omega)) | (first | assumption | omega | ((try dsimp only [jt2, jt3, jt4]); first | omega | (simp (disch := omega) only [jst_eq, jst_ne, jst_ni, jst_o, jI_i, jcpy_out, w32_id, jdiv_nn, jshr_k, jand_255] <;> first | done | omega | assumption)) | (intros; simp (disch := omega) only [jst_eq, jst_ne, jst_ni, jst_o, jI_i, jcpy_out, w32_id, jdiv_nn, *] <;> first | done | omega) | (intros; simp (disch := omega) only [jst_eq, jst_ne, jst_ni, jst_o, jI_i, jcpy_out, w32_id, jdiv_nn] at * <;> first | done | omega | assumption) | (intros; first | rfl | (exfalso; omega) | ((repeat' apply And.intro) <;> first | assumption | rfl | omega | trivial)))) -- o59 e6.3
    · (first | (exact hs1) | (exact U3) | (exact Y3) | (exact fun _ => S3) | ((intro z1 n C most hm m5 z; exfalso; omega)) | ((intro z1 most hm m5 z; exfalso; omega)) | (first | assumption | omega | ((try dsimp only [jt2, jt3, jt4]); first | omega | (simp (disch := omega) only [jst_eq, jst_ne, jst_ni, jst_o, jI_i, jcpy_out, w32_id, jdiv_nn, jshr_k, jand_255] <;> first | done | omega | assumption)) | (intros; simp (disch := omega) only [jst_eq, jst_ne, jst_ni, jst_o, jI_i, jcpy_out, w32_id, jdiv_nn, *] <;> first | done | omega) | (intros; simp (disch := omega) only [jst_eq, jst_ne, jst_ni, jst_o, jI_i, jcpy_out, w32_id, jdiv_nn] at * <;> first | done | omega | assumption) | (intros; first | rfl | (exfalso; omega) | ((repeat' apply And.intro) <;> first | assumption | rfl | omega | trivial)))) -- o60 e6.4
    · (first | (exact hs1) | (exact U3) | (exact Y3) | (exact fun _ => S3) | ((intro z1 n C most hm m5 z; exfalso; omega)) | ((intro z1 most hm m5 z; exfalso; omega)) | (first | assumption | omega | ((try dsimp only [jt2, jt3, jt4]); first | omega | (simp (disch := omega) only [jst_eq, jst_ne, jst_ni, jst_o, jI_i, jcpy_out, w32_id, jdiv_nn, jshr_k, jand_255] <;> first | done | omega | assumption)) | (intros; simp (disch := omega) only [jst_eq, jst_ne, jst_ni, jst_o, jI_i, jcpy_out, w32_id, jdiv_nn, *] <;> first | done | omega) | (intros; simp (disch := omega) only [jst_eq, jst_ne, jst_ni, jst_o, jI_i, jcpy_out, w32_id, jdiv_nn] at * <;> first | done | omega | assumption) | (intros; first | rfl | (exfalso; omega) | ((repeat' apply And.intro) <;> first | assumption | rfl | omega | trivial)))) -- o61 e6.5
    · (first | (exact hs1) | (exact U3) | (exact Y3) | (exact fun _ => S3) | ((intro z1 n C most hm m5 z; exfalso; omega)) | ((intro z1 most hm m5 z; exfalso; omega)) | (first | assumption | omega | ((try dsimp only [jt2, jt3, jt4]); first | omega | (simp (disch := omega) only [jst_eq, jst_ne, jst_ni, jst_o, jI_i, jcpy_out, w32_id, jdiv_nn, jshr_k, jand_255] <;> first | done | omega | assumption)) | (intros; simp (disch := omega) only [jst_eq, jst_ne, jst_ni, jst_o, jI_i, jcpy_out, w32_id, jdiv_nn, *] <;> first | done | omega) | (intros; simp (disch := omega) only [jst_eq, jst_ne, jst_ni, jst_o, jI_i, jcpy_out, w32_id, jdiv_nn] at * <;> first | done | omega | assumption) | (intros; first | rfl | (exfalso; omega) | ((repeat' apply And.intro) <;> first | assumption | rfl | omega | trivial)))) -- o62 e6.6
    · (first | (exact hs1) | (exact U3) | (exact Y3) | (exact fun _ => S3) | ((intro z1 n C most hm m5 z; exfalso; omega)) | ((intro z1 most hm m5 z; exfalso; omega)) | (first | assumption | omega | ((try dsimp only [jt2, jt3, jt4]); first | omega | (simp (disch := omega) only [jst_eq, jst_ne, jst_ni, jst_o, jI_i, jcpy_out, w32_id, jdiv_nn, jshr_k, jand_255] <;> first | done | omega | assumption)) | (intros; simp (disch := omega) only [jst_eq, jst_ne, jst_ni, jst_o, jI_i, jcpy_out, w32_id, jdiv_nn, *] <;> first | done | omega) | (intros; simp (disch := omega) only [jst_eq, jst_ne, jst_ni, jst_o, jI_i, jcpy_out, w32_id, jdiv_nn] at * <;> first | done | omega | assumption) | (intros; first | rfl | (exfalso; omega) | ((repeat' apply And.intro) <;> first | assumption | rfl | omega | trivial)))) -- o63 e6.7
    · (first | (exact hs1) | (exact U3) | (exact Y3) | (exact fun _ => S3) | ((intro z1 n C most hm m5 z; exfalso; omega)) | ((intro z1 most hm m5 z; exfalso; omega)) | (first | assumption | omega | ((try dsimp only [jt2, jt3, jt4]); first | omega | (simp (disch := omega) only [jst_eq, jst_ne, jst_ni, jst_o, jI_i, jcpy_out, w32_id, jdiv_nn, jshr_k, jand_255] <;> first | done | omega | assumption)) | (intros; simp (disch := omega) only [jst_eq, jst_ne, jst_ni, jst_o, jI_i, jcpy_out, w32_id, jdiv_nn, *] <;> first | done | omega) | (intros; simp (disch := omega) only [jst_eq, jst_ne, jst_ni, jst_o, jI_i, jcpy_out, w32_id, jdiv_nn] at * <;> first | done | omega | assumption) | (intros; first | rfl | (exfalso; omega) | ((repeat' apply And.intro) <;> first | assumption | rfl | omega | trivial)))) -- o64 e6.8

