/-! m: all runs; what is asked of all meetings, at both ends -/
theorem loM_g {h h' : AH} {L : LE} (c : loM h L) (g : ∀ a s, ¬ (a = 454 ∧ s ≠ 92) → ¬ ((a = 815 ∨ a = 816) ∧ 0 ≤ s) → h' a s = h a s) : loM h' L := by
  obtain ⟨c1, c2, c3, c4, c5, c6, c7, c8, c9, ca⟩ := c
  have e : h' 454 92 = h 454 92 := g _ _ (by omega) (by omega)
  have vf : ∀ {R : TR} {d : Int}, atM h R d → atM h' R d := fun v => atM_f v (fun a s a0 a1 => g a s (by omega) (by omega))
  unfold loM
  rw [e, g (h 454 92) 2 (by omega) (by omega), g (h 454 92) 4 (by omega) (by omega), g (h 454 92) 6 (by omega) (by omega), g (h 454 92) 8 (by omega) (by omega), g (h 454 92 + 1) (-2) (by omega) (by omega), g (h 454 92 + 1) (-1) (by omega) (by omega), g (h 454 92 + 3) (-2) (by omega) (by omega), g (h 454 92 + 3) (-1) (by omega) (by omega), g (h 454 92 + 4) (-2) (by omega) (by omega), g (h 454 92 + 4) (-1) (by omega) (by omega)]
  refine ⟨c1, c2, c3, fun k k0 k1 => by rw [g _ _ (by omega) (by omega)]; exact c4 k k0 k1, fun k k0 k1 => ?_, vf c6, vf c7, c8, c9, ca⟩
  rw [g (h 454 92 + 2) k (by omega) (by omega), g (h 454 92 + 3) k (by omega) (by omega), g (h 454 92 + 4) k (by omega) (by omega)]
  have q := c5 k k0 k1
  exact ⟨q.1, vf q.2.1, vf q.2.2⟩
theorem rnM_51 {h h' : AH} {E : EV} {Rf : Int → TR} {W : Int → Int → Int → VW} {L : LE} (r : rnM h E Rf W L) (g : ∀ a s, ¬ (a = 454 ∧ s = 51) → h' a s = h a s) : rnM h' E Rf W L := ⟨wkM_f r.1 (by unfold bd20; rw [g _ _ (by omega)]; exact r.1.2.2) (fun a s y => g a s (by omega)), loM_g r.2.1 (fun a s y1 y2 => g a s (by omega)), r.2.2⟩
def mkB (h : AH) (N : Int) : Prop := (0 ≤ h 454 97 ∧ h 454 97 ≤ N) ∧ (∀ p, 0 ≤ p → p < 4096 → h 815 p ≤ h 454 97) ∧ (0 ≤ h 454 99 ∧ h 454 99 ≤ N) ∧ ∀ p, 0 ≤ p → p < 4096 → h 816 p ≤ h 454 99
theorem vX14_playAll (a1 : Int) (a2 : Int) {h : AH} {N : Int} (mb : mkB h N ∧ N ≤ 1000000000) : OK (gX14_playAll a1 a2 h) (fun h' => (∀ L, snM h' L a1 []) ∧ (h' 454 100 = a2 ∧ h' 454 99 = h 454 99 + 1) ∧ (∀ a s, ¬ (a = 454 ∧ (s = 99 ∨ s = 100 ∨ s = 102 ∨ s = 103 ∨ s = 104 ∨ s = 106)) → h' a s = h a s)) := by
  obtain ⟨⟨m1, m2, m3, m4⟩, m5⟩ := mb
  unfold gX14_playAll
  refine OK_jl ?_
  refine OK_jl ?_
  refine OK_jl ?_
  have E2 : jst (jst h 454 102 a1) 454 100 a2 454 99 = h 454 99 := by { rw [jst_ni (by decide), jst_ni (by decide)] }
  rw [E2, w32_id (x := h 454 99 + 1) (by omega) (by omega)]
  refine OK_jl ?_
  refine OK_jl ?_
  refine OK_jl ?_
  have F6 : ∀ a s, ¬ (a = 454 ∧ (s = 99 ∨ s = 100 ∨ s = 102 ∨ s = 103 ∨ s = 104 ∨ s = 106)) → jst (jst (jst (jst (jst (jst h 454 102 a1) 454 100 a2) 454 99 (h 454 99 + 1)) 454 106 0) 454 103 100) 454 104 (-1) a s = h a s := fun a s y => by { rw [jst_o (by omega), jst_o (by omega), jst_o (by omega), jst_o (by omega), jst_o (by omega), jst_o (by omega)] }
  have C6 : jst (jst (jst (jst (jst (jst h 454 102 a1) 454 100 a2) 454 99 (h 454 99 + 1)) 454 106 0) 454 103 100) 454 104 (-1) 454 102 = a1 ∧ jst (jst (jst (jst (jst (jst h 454 102 a1) 454 100 a2) 454 99 (h 454 99 + 1)) 454 106 0) 454 103 100) 454 104 (-1) 454 100 = a2 ∧ jst (jst (jst (jst (jst (jst h 454 102 a1) 454 100 a2) 454 99 (h 454 99 + 1)) 454 106 0) 454 103 100) 454 104 (-1) 454 99 = h 454 99 + 1 ∧ jst (jst (jst (jst (jst (jst h 454 102 a1) 454 100 a2) 454 99 (h 454 99 + 1)) 454 106 0) 454 103 100) 454 104 (-1) 454 106 = 0 ∧ jst (jst (jst (jst (jst (jst h 454 102 a1) 454 100 a2) 454 99 (h 454 99 + 1)) 454 106 0) 454 103 100) 454 104 (-1) 454 103 = 100 ∧ jst (jst (jst (jst (jst (jst h 454 102 a1) 454 100 a2) 454 99 (h 454 99 + 1)) 454 106 0) 454 103 100) 454 104 (-1) 454 104 = -1 := ⟨by { rw [jst_ni (by decide), jst_ni (by decide), jst_ni (by decide), jst_ni (by decide), jst_ni (by decide), jst_eq] }, by { rw [jst_ni (by decide), jst_ni (by decide), jst_ni (by decide), jst_ni (by decide), jst_eq] }, by { rw [jst_ni (by decide), jst_ni (by decide), jst_ni (by decide), jst_eq] }, by { rw [jst_ni (by decide), jst_ni (by decide), jst_eq] }, by { rw [jst_ni (by decide), jst_eq] }, jst_eq⟩
  generalize jst (jst (jst (jst (jst (jst h 454 102 a1) 454 100 a2) 454 99 (h 454 99 + 1)) 454 106 0) 454 103 100) 454 104 (-1) = g6 at *
  refine OK_some ?_
  try dsimp only [Sum.elim_inl, Sum.elim_inr, jt2, jt3, jt4, jt5, jt6, jt7, jt8]
  try dsimp only [Sum.elim_inl, Sum.elim_inr, jt2, jt3, jt4, jt5, jt6, jt7, jt8]
  refine ⟨?_, ?_, ?_⟩
  · (intro L; refine ⟨fun s m => (by cases m), fun p p0 p1 => ?_, C6.2.2.2.1, C6.1, C6.2.2.2.2.1, C6.2.2.2.2.2⟩; rw [C6.2.2.1, F6 816 p (by omega)]; have q := m4 p p0 p1; exact ⟨by omega, fun z => by omega⟩) -- o1 e1.1
  · exact ⟨C6.2.1, C6.2.2.1⟩ -- o2 e1.2
  · exact F6 -- o3 e1.3
theorem vX14_inputs {h : AH} {E : EV} {L : LE} (lo : loM h L) (v : vLE E L) : OK (gX14_inputs h) (fun v => v = inN L) := by
  have n2 := v.1
  have LX := lo.1
  unfold gX14_inputs
  refine OK_jg (by (unfold isX17; exact LX)) ?_ -- o1
  refine OK_jb (vX14_rowsOf (n := L.1.1) (kf := L.1.2) _ _ _ (by (have q := lo.2.2.2.2.2.2.2.1; have q2 := lo.2.1; omega)) (by exact fun k k0 k1 => ⟨by rw [Int.zero_add]; exact lo.2.2.2.1 k k0 k1, (n2.2.2 k k0 k1).1, by have := (n2.2.2 k k0 k1).2; omega⟩)) (fun v2 r1 => ?_)
  try dsimp only [Sum.elim_inl, Sum.elim_inr, jt2, jt3, jt4, jt5, jt6, jt7, jt8] at r1
  have pv1 := r1
  clear r1
  try simp (disch := omega) only [jst_eq, jst_ne, jst_ni, jI_i, jcmp_lt, jcmp_gt, w32_id, jcpy_out, Sum.elim_inl, Sum.elim_inr, jt2, jt3, jt4, jt5, jt6, jt7, jt8] at pv1
  refine OK_some ?_
  try dsimp only [Sum.elim_inl, Sum.elim_inr, jt2, jt3, jt4, jt5, jt6, jt7, jt8]
  assumption -- o4 e1
theorem gtR_0 {L : LE} {k : Int} (k0 : 0 ≤ k) (k1 : k < L.2.1.1) : ∀ {l : List (Int → Int)}, l ≠ [] → (∀ s, s ∈ l → vlS L s) → 0 ≤ gtR k l
  | [], n, _ => absurd rfl n
  | s :: l, _, h => by
    have b := (h s List.mem_cons_self k k0 k1).1
    show 0 ≤ max (gtR k l) (s k)
    omega
theorem vX14_span_l59 (i2 : Int) (a30 : Int) {h0 : AH} {E : EV} {Rf : Int → TR} {W : Int → Int → Int → VW} {L : LE} {k N : Int} (rn : rnM h0 E Rf W L) (mb : mkB h0 N ∧ N ≤ 900000000) (ak : h0 454 100 = -1) (kk : 0 ≤ k ∧ k ≤ 2) (se : snM h0 L k []) (h1 : a30 = 0) : OK (gX14_span_l59 i2 a30 h0) (fun h' => (∃ H, HS W L (inN L).toNat H ∧ snM h' L k H) ∧ (h' 454 97 = h0 454 97 + inN L ∧ ∀ p, 0 ≤ p → p < 4096 → h' 815 p ≤ h' 454 97) ∧ (fPl h0 h' ∧ h' 454 100 = h0 454 100 ∧ h' 454 99 = h0 454 99) ∧ (bd20 h')) := by
  have v := rn.2.2
  have IB := inN_b v
  have MB := mb.1.1
  obtain ⟨ac, wt⟩ := rnM_a rn
  unfold gX14_span_l59
  refine OK_jit (I := (fun (s : Int × AH) => jt2 s fun a3 h => (0 ≤ a3 ∧ a3 ≤ inN L) ∧ (∃ H, HS W L a3.toNat H ∧ snM h L k H) ∧ (h 454 97 = h0 454 97 + a3 ∧ ∀ p, 0 ≤ p → p < 4096 → h 815 p ≤ h 454 97) ∧ (fPl h0 h ∧ h 454 100 = h0 454 100 ∧ h 454 99 = h0 454 99) ∧ (bd20 h))) (m := (fun (s : Int × AH) => jt2 s fun a3 h => (inN L - a3).toNat)) ?_ ?_
  · intro s hs
    obtain ⟨a3, h⟩ := s
    dsimp only [Sum.elim_inl, Sum.elim_inr, jt2, jt3, jt4, jt5, jt6, jt7, jt8] at hs
    obtain ⟨q0, q1, q2, fr, bb⟩ := hs
    unfold gX14_span_b59
    refine OK_jt2 ?_
    have RN2 : rnM h E Rf W L := rnM_f rn bb fr.1
    obtain ⟨H, H1, H2⟩ := q1
    have HL := HS_len ac wt v H1
    refine OK_jb (vX14_inputs (E := E) (L := L) (by exact RN2.2.1) (by exact v)) (fun v19 r1 => ?_)
    try dsimp only [Sum.elim_inl, Sum.elim_inr, jt2, jt3, jt4, jt5, jt6, jt7, jt8] at r1
    have vi1 := r1
    clear r1
    try simp (disch := omega) only [jst_eq, jst_ne, jst_ni, jI_i, jcmp_lt, jcmp_gt, w32_id, jcpy_out, Sum.elim_inl, Sum.elim_inr, jt2, jt3, jt4, jt5, jt6, jt7, jt8] at vi1
    have V19 : v19 = inN L := by assumption
    refine OK_if (fun c1 => ?_) (fun c1 => ?_)
    · skip
      try simp (disch := omega) only [jst_eq, jst_ne, jst_ni, jI_i, jcmp_lt, jcmp_gt, w32_id, jcpy_out, Sum.elim_inl, Sum.elim_inr, jt2, jt3, jt4, jt5, jt6, jt7, jt8] at c1
      refine OK_ir ?_
      try dsimp only [Sum.elim_inl, Sum.elim_inr, jt2, jt3, jt4, jt5, jt6, jt7, jt8]
      refine ⟨?_, ?_, ?_, ?_⟩
      · (rw [show (inN L).toNat = a3.toNat by omega]; exact ⟨H, H1, H2⟩) -- o3 e1.1
      · exact ⟨by omega, q2.2⟩ -- o4 e1.2
      · (first | assumption | omega | ((try dsimp only [jt2, jt3, jt4]); first | omega | (simp (disch := omega) only [jst_eq, jst_ne, jst_ni, jst_o, jI_i, jcpy_out, w32_id, jdiv_nn, jshr_k, jand_255] <;> first | done | omega | assumption)) | (intros; simp (disch := omega) only [jst_eq, jst_ne, jst_ni, jst_o, jI_i, jcpy_out, w32_id, jdiv_nn, *] <;> first | done | omega) | (intros; simp (disch := omega) only [jst_eq, jst_ne, jst_ni, jst_o, jI_i, jcpy_out, w32_id, jdiv_nn] at * <;> first | done | omega | assumption) | (intros; first | rfl | (exfalso; omega) | ((repeat' apply And.intro) <;> first | assumption | rfl | omega | trivial))) -- o5 e1.3
      · (first | assumption | omega | ((try dsimp only [jt2, jt3, jt4]); first | omega | (simp (disch := omega) only [jst_eq, jst_ne, jst_ni, jst_o, jI_i, jcpy_out, w32_id, jdiv_nn, jshr_k, jand_255] <;> first | done | omega | assumption)) | (intros; simp (disch := omega) only [jst_eq, jst_ne, jst_ni, jst_o, jI_i, jcpy_out, w32_id, jdiv_nn, *] <;> first | done | omega) | (intros; simp (disch := omega) only [jst_eq, jst_ne, jst_ni, jst_o, jI_i, jcpy_out, w32_id, jdiv_nn] at * <;> first | done | omega | assumption) | (intros; first | rfl | (exfalso; omega) | ((repeat' apply And.intro) <;> first | assumption | rfl | omega | trivial))) -- o6 e1.4
    · skip
      try simp (disch := omega) only [jst_eq, jst_ne, jst_ni, jI_i, jcmp_lt, jcmp_gt, w32_id, jcpy_out, Sum.elim_inl, Sum.elim_inr, jt2, jt3, jt4, jt5, jt6, jt7, jt8] at c1
      refine OK_jb (vX14_play (E := E) (Rf := Rf) (W := W) (L := L) (H := H) (T := .leaf (0, 0, 0, 0)) (k := k) _ (by exact RN2) (by omega) (by exact ⟨by omega, q2.2⟩) (by exact Or.inl (by rw [fr.2.1]; exact ak)) (by exact kk) (by omega) (by exact H2)) (fun h22 r2 => ?_)
      try dsimp only [Sum.elim_inl, Sum.elim_inr, jt2, jt3, jt4, jt5, jt6, jt7, jt8] at r2
      obtain ⟨rr2, md2, mk2, fr2, bb2⟩ := r2
      try simp (disch := omega) only [jst_eq, jst_ne, jst_ni, jI_i, jcmp_lt, jcmp_gt, w32_id, jcpy_out, Sum.elim_inl, Sum.elim_inr, jt2, jt3, jt4, jt5, jt6, jt7, jt8] at rr2
      try simp (disch := omega) only [jst_eq, jst_ne, jst_ni, jI_i, jcmp_lt, jcmp_gt, w32_id, jcpy_out, Sum.elim_inl, Sum.elim_inr, jt2, jt3, jt4, jt5, jt6, jt7, jt8] at md2
      try simp (disch := omega) only [jst_eq, jst_ne, jst_ni, jI_i, jcmp_lt, jcmp_gt, w32_id, jcpy_out, Sum.elim_inl, Sum.elim_inr, jt2, jt3, jt4, jt5, jt6, jt7, jt8] at mk2
      try simp (disch := omega) only [jst_eq, jst_ne, jst_ni, jI_i, jcmp_lt, jcmp_gt, w32_id, jcpy_out, Sum.elim_inl, Sum.elim_inr, jt2, jt3, jt4, jt5, jt6, jt7, jt8] at fr2
      try simp (disch := omega) only [jst_eq, jst_ne, jst_ni, jI_i, jcmp_lt, jcmp_gt, w32_id, jcpy_out, Sum.elim_inl, Sum.elim_inr, jt2, jt3, jt4, jt5, jt6, jt7, jt8] at bb2
      refine OK_jlx (fun x23 ex23 => ?_)
      try simp (disch := omega) only [jst_eq, jst_ne, jst_ni, jI_i, jcmp_lt, jcmp_gt, w32_id, jcpy_out, Sum.elim_inl, Sum.elim_inr, jt2, jt3, jt4, jt5, jt6, jt7, jt8] at ex23
      refine OK_il ?_ ?_
      · try dsimp only [Sum.elim_inl, Sum.elim_inr, jt2, jt3, jt4, jt5, jt6, jt7, jt8]
        refine ⟨?_, ?_, ?_, ?_, ?_⟩
        · (first | assumption | omega | ((try dsimp only [jt2, jt3, jt4]); first | omega | (simp (disch := omega) only [jst_eq, jst_ne, jst_ni, jst_o, jI_i, jcpy_out, w32_id, jdiv_nn, jshr_k, jand_255] <;> first | done | omega | assumption)) | (intros; simp (disch := omega) only [jst_eq, jst_ne, jst_ni, jst_o, jI_i, jcpy_out, w32_id, jdiv_nn, *] <;> first | done | omega) | (intros; simp (disch := omega) only [jst_eq, jst_ne, jst_ni, jst_o, jI_i, jcpy_out, w32_id, jdiv_nn] at * <;> first | done | omega | assumption) | (intros; first | rfl | (exfalso; omega) | ((repeat' apply And.intro) <;> first | assumption | rfl | omega | trivial))) -- o14 e2i.1
        · (refine ⟨mtL W L a3 (h22 454 105).toNat ++ H, ?_, md2.1⟩; rw [show x23.toNat = a3.toNat + 1 by omega]; exact ⟨_, _, _, H, by rw [show ((a3.toNat : Nat) : Int) = a3 by omega]; exact rr2.1, H1, by rw [show ((a3.toNat : Nat) : Int) = a3 by omega]⟩) -- o15 e2i.2
        · exact ⟨by have := mk2.1; omega, mk2.2⟩ -- o16 e2i.3
        · exact ⟨fPl_t fr.1 fr2.1, by rw [fr2.2.1]; exact fr.2.1, by rw [fr2.2.2]; exact fr.2.2⟩ -- o17 e2i.4
        · exact bb2 -- o18 e2i.5
      · (first | assumption | omega | ((try dsimp only [jt2, jt3, jt4]); first | omega | (simp (disch := omega) only [jst_eq, jst_ne, jst_ni, jst_o, jI_i, jcpy_out, w32_id, jdiv_nn, jshr_k, jand_255] <;> first | done | omega | assumption)) | (intros; simp (disch := omega) only [jst_eq, jst_ne, jst_ni, jst_o, jI_i, jcpy_out, w32_id, jdiv_nn, *] <;> first | done | omega) | (intros; simp (disch := omega) only [jst_eq, jst_ne, jst_ni, jst_o, jI_i, jcpy_out, w32_id, jdiv_nn] at * <;> first | done | omega | assumption) | (intros; first | rfl | (exfalso; omega) | ((repeat' apply And.intro) <;> first | assumption | rfl | omega | trivial))) -- o19 e2m
  · try dsimp only [Sum.elim_inl, Sum.elim_inr, jt2, jt3, jt4, jt5, jt6, jt7, jt8]
    refine ⟨?_, ?_, ?_, ?_, ?_⟩
    · (first | assumption | omega | ((try dsimp only [jt2, jt3, jt4]); first | omega | (simp (disch := omega) only [jst_eq, jst_ne, jst_ni, jst_o, jI_i, jcpy_out, w32_id, jdiv_nn, jshr_k, jand_255] <;> first | done | omega | assumption)) | (intros; simp (disch := omega) only [jst_eq, jst_ne, jst_ni, jst_o, jI_i, jcpy_out, w32_id, jdiv_nn, *] <;> first | done | omega) | (intros; simp (disch := omega) only [jst_eq, jst_ne, jst_ni, jst_o, jI_i, jcpy_out, w32_id, jdiv_nn] at * <;> first | done | omega | assumption) | (intros; first | rfl | (exfalso; omega) | ((repeat' apply And.intro) <;> first | assumption | rfl | omega | trivial))) -- o20 init.1
    · (rw [h1]; exact ⟨[], rfl, se⟩) -- o21 init.2
    · (rw [h1]; exact ⟨by omega, mb.1.2.1⟩) -- o22 init.3
    · exact ⟨fPl_r, rfl, rfl⟩ -- o23 init.4
    · exact rn.1.2.2 -- o24 init.5
theorem vX14_loop_l65 (a20 : Int) {h0 : AH} {E : EV} {Rf : Int → TR} {W : Int → Int → Int → VW} {L : LE} {k N : Int} (rn : rnM h0 E Rf W L) (mb : mkB h0 N ∧ N ≤ 900000000) (ak : h0 454 100 = -1) (kk : 0 ≤ k ∧ k ≤ 2) (se : snM h0 L k []) (h1 : a20 = 0) : OK (gX14_loop_l65 a20 h0) (fun h' => (∃ H, HS W L (inN L).toNat H ∧ snM h' L k H) ∧ (h' 454 97 = h0 454 97 + inN L ∧ ∀ p, 0 ≤ p → p < 4096 → h' 815 p ≤ h' 454 97) ∧ (fPl h0 h' ∧ h' 454 100 = h0 454 100 ∧ h' 454 99 = h0 454 99) ∧ (bd20 h')) := by
  have v := rn.2.2
  have IB := inN_b v
  have MB := mb.1.1
  obtain ⟨ac, wt⟩ := rnM_a rn
  unfold gX14_loop_l65
  refine OK_jit (I := (fun (s : Int × AH) => jt2 s fun a2 h => (0 ≤ a2 ∧ a2 ≤ inN L) ∧ (∃ H, HS W L a2.toNat H ∧ snM h L k H) ∧ (h 454 97 = h0 454 97 + a2 ∧ ∀ p, 0 ≤ p → p < 4096 → h 815 p ≤ h 454 97) ∧ (fPl h0 h ∧ h 454 100 = h0 454 100 ∧ h 454 99 = h0 454 99) ∧ (bd20 h))) (m := (fun (s : Int × AH) => jt2 s fun a2 h => (inN L - a2).toNat)) ?_ ?_
  · intro s hs
    obtain ⟨a2, h⟩ := s
    dsimp only [Sum.elim_inl, Sum.elim_inr, jt2, jt3, jt4, jt5, jt6, jt7, jt8] at hs
    obtain ⟨q0, q1, q2, fr, bb⟩ := hs
    unfold gX14_loop_b65
    refine OK_jt2 ?_
    have RN2 : rnM h E Rf W L := rnM_f rn bb fr.1
    obtain ⟨H, H1, H2⟩ := q1
    have HL := HS_len ac wt v H1
    refine OK_jb (vX14_inputs (E := E) (L := L) (by exact RN2.2.1) (by exact v)) (fun v22 r1 => ?_)
    try dsimp only [Sum.elim_inl, Sum.elim_inr, jt2, jt3, jt4, jt5, jt6, jt7, jt8] at r1
    have vi1 := r1
    clear r1
    try simp (disch := omega) only [jst_eq, jst_ne, jst_ni, jI_i, jcmp_lt, jcmp_gt, w32_id, jcpy_out, Sum.elim_inl, Sum.elim_inr, jt2, jt3, jt4, jt5, jt6, jt7, jt8] at vi1
    have V19 : v22 = inN L := by assumption
    refine OK_if (fun c1 => ?_) (fun c1 => ?_)
    · skip
      try simp (disch := omega) only [jst_eq, jst_ne, jst_ni, jI_i, jcmp_lt, jcmp_gt, w32_id, jcpy_out, Sum.elim_inl, Sum.elim_inr, jt2, jt3, jt4, jt5, jt6, jt7, jt8] at c1
      refine OK_ir ?_
      try dsimp only [Sum.elim_inl, Sum.elim_inr, jt2, jt3, jt4, jt5, jt6, jt7, jt8]
      refine ⟨?_, ?_, ?_, ?_⟩
      · (rw [show (inN L).toNat = a2.toNat by omega]; exact ⟨H, H1, H2⟩) -- o3 e1.1
      · exact ⟨by omega, q2.2⟩ -- o4 e1.2
      · (first | assumption | omega | ((try dsimp only [jt2, jt3, jt4]); first | omega | (simp (disch := omega) only [jst_eq, jst_ne, jst_ni, jst_o, jI_i, jcpy_out, w32_id, jdiv_nn, jshr_k, jand_255] <;> first | done | omega | assumption)) | (intros; simp (disch := omega) only [jst_eq, jst_ne, jst_ni, jst_o, jI_i, jcpy_out, w32_id, jdiv_nn, *] <;> first | done | omega) | (intros; simp (disch := omega) only [jst_eq, jst_ne, jst_ni, jst_o, jI_i, jcpy_out, w32_id, jdiv_nn] at * <;> first | done | omega | assumption) | (intros; first | rfl | (exfalso; omega) | ((repeat' apply And.intro) <;> first | assumption | rfl | omega | trivial))) -- o5 e1.3
      · (first | assumption | omega | ((try dsimp only [jt2, jt3, jt4]); first | omega | (simp (disch := omega) only [jst_eq, jst_ne, jst_ni, jst_o, jI_i, jcpy_out, w32_id, jdiv_nn, jshr_k, jand_255] <;> first | done | omega | assumption)) | (intros; simp (disch := omega) only [jst_eq, jst_ne, jst_ni, jst_o, jI_i, jcpy_out, w32_id, jdiv_nn, *] <;> first | done | omega) | (intros; simp (disch := omega) only [jst_eq, jst_ne, jst_ni, jst_o, jI_i, jcpy_out, w32_id, jdiv_nn] at * <;> first | done | omega | assumption) | (intros; first | rfl | (exfalso; omega) | ((repeat' apply And.intro) <;> first | assumption | rfl | omega | trivial))) -- o6 e1.4
    · skip
      try simp (disch := omega) only [jst_eq, jst_ne, jst_ni, jI_i, jcmp_lt, jcmp_gt, w32_id, jcpy_out, Sum.elim_inl, Sum.elim_inr, jt2, jt3, jt4, jt5, jt6, jt7, jt8] at c1
      refine OK_jb (vX14_play (E := E) (Rf := Rf) (W := W) (L := L) (H := H) (T := .leaf (0, 0, 0, 0)) (k := k) _ (by exact RN2) (by omega) (by exact ⟨by omega, q2.2⟩) (by exact Or.inl (by rw [fr.2.1]; exact ak)) (by exact kk) (by omega) (by exact H2)) (fun h25 r2 => ?_)
      try dsimp only [Sum.elim_inl, Sum.elim_inr, jt2, jt3, jt4, jt5, jt6, jt7, jt8] at r2
      obtain ⟨rr2, md2, mk2, fr2, bb2⟩ := r2
      try simp (disch := omega) only [jst_eq, jst_ne, jst_ni, jI_i, jcmp_lt, jcmp_gt, w32_id, jcpy_out, Sum.elim_inl, Sum.elim_inr, jt2, jt3, jt4, jt5, jt6, jt7, jt8] at rr2
      try simp (disch := omega) only [jst_eq, jst_ne, jst_ni, jI_i, jcmp_lt, jcmp_gt, w32_id, jcpy_out, Sum.elim_inl, Sum.elim_inr, jt2, jt3, jt4, jt5, jt6, jt7, jt8] at md2
      try simp (disch := omega) only [jst_eq, jst_ne, jst_ni, jI_i, jcmp_lt, jcmp_gt, w32_id, jcpy_out, Sum.elim_inl, Sum.elim_inr, jt2, jt3, jt4, jt5, jt6, jt7, jt8] at mk2
      try simp (disch := omega) only [jst_eq, jst_ne, jst_ni, jI_i, jcmp_lt, jcmp_gt, w32_id, jcpy_out, Sum.elim_inl, Sum.elim_inr, jt2, jt3, jt4, jt5, jt6, jt7, jt8] at fr2
      try simp (disch := omega) only [jst_eq, jst_ne, jst_ni, jI_i, jcmp_lt, jcmp_gt, w32_id, jcpy_out, Sum.elim_inl, Sum.elim_inr, jt2, jt3, jt4, jt5, jt6, jt7, jt8] at bb2
      refine OK_jlx (fun x26 ex26 => ?_)
      try simp (disch := omega) only [jst_eq, jst_ne, jst_ni, jI_i, jcmp_lt, jcmp_gt, w32_id, jcpy_out, Sum.elim_inl, Sum.elim_inr, jt2, jt3, jt4, jt5, jt6, jt7, jt8] at ex26
      refine OK_il ?_ ?_
      · try dsimp only [Sum.elim_inl, Sum.elim_inr, jt2, jt3, jt4, jt5, jt6, jt7, jt8]
        refine ⟨?_, ?_, ?_, ?_, ?_⟩
        · (first | assumption | omega | ((try dsimp only [jt2, jt3, jt4]); first | omega | (simp (disch := omega) only [jst_eq, jst_ne, jst_ni, jst_o, jI_i, jcpy_out, w32_id, jdiv_nn, jshr_k, jand_255] <;> first | done | omega | assumption)) | (intros; simp (disch := omega) only [jst_eq, jst_ne, jst_ni, jst_o, jI_i, jcpy_out, w32_id, jdiv_nn, *] <;> first | done | omega) | (intros; simp (disch := omega) only [jst_eq, jst_ne, jst_ni, jst_o, jI_i, jcpy_out, w32_id, jdiv_nn] at * <;> first | done | omega | assumption) | (intros; first | rfl | (exfalso; omega) | ((repeat' apply And.intro) <;> first | assumption | rfl | omega | trivial))) -- o14 e2i.1
        · (refine ⟨mtL W L a2 (h25 454 105).toNat ++ H, ?_, md2.1⟩; rw [show x26.toNat = a2.toNat + 1 by omega]; exact ⟨_, _, _, H, by rw [show ((a2.toNat : Nat) : Int) = a2 by omega]; exact rr2.1, H1, by rw [show ((a2.toNat : Nat) : Int) = a2 by omega]⟩) -- o15 e2i.2
        · exact ⟨by have := mk2.1; omega, mk2.2⟩ -- o16 e2i.3
        · exact ⟨fPl_t fr.1 fr2.1, by rw [fr2.2.1]; exact fr.2.1, by rw [fr2.2.2]; exact fr.2.2⟩ -- o17 e2i.4
        · exact bb2 -- o18 e2i.5
      · (first | assumption | omega | ((try dsimp only [jt2, jt3, jt4]); first | omega | (simp (disch := omega) only [jst_eq, jst_ne, jst_ni, jst_o, jI_i, jcpy_out, w32_id, jdiv_nn, jshr_k, jand_255] <;> first | done | omega | assumption)) | (intros; simp (disch := omega) only [jst_eq, jst_ne, jst_ni, jst_o, jI_i, jcpy_out, w32_id, jdiv_nn, *] <;> first | done | omega) | (intros; simp (disch := omega) only [jst_eq, jst_ne, jst_ni, jst_o, jI_i, jcpy_out, w32_id, jdiv_nn] at * <;> first | done | omega | assumption) | (intros; first | rfl | (exfalso; omega) | ((repeat' apply And.intro) <;> first | assumption | rfl | omega | trivial))) -- o19 e2m
  · try dsimp only [Sum.elim_inl, Sum.elim_inr, jt2, jt3, jt4, jt5, jt6, jt7, jt8]
    refine ⟨?_, ?_, ?_, ?_, ?_⟩
    · (first | assumption | omega | ((try dsimp only [jt2, jt3, jt4]); first | omega | (simp (disch := omega) only [jst_eq, jst_ne, jst_ni, jst_o, jI_i, jcpy_out, w32_id, jdiv_nn, jshr_k, jand_255] <;> first | done | omega | assumption)) | (intros; simp (disch := omega) only [jst_eq, jst_ne, jst_ni, jst_o, jI_i, jcpy_out, w32_id, jdiv_nn, *] <;> first | done | omega) | (intros; simp (disch := omega) only [jst_eq, jst_ne, jst_ni, jst_o, jI_i, jcpy_out, w32_id, jdiv_nn] at * <;> first | done | omega | assumption) | (intros; first | rfl | (exfalso; omega) | ((repeat' apply And.intro) <;> first | assumption | rfl | omega | trivial))) -- o20 init.1
    · (rw [h1]; exact ⟨[], rfl, se⟩) -- o21 init.2
    · (rw [h1]; exact ⟨by omega, mb.1.2.1⟩) -- o22 init.3
    · exact ⟨fPl_r, rfl, rfl⟩ -- o23 init.4
    · exact rn.1.2.2 -- o24 init.5
def fPk (h h' : AH) : Prop := ∀ a s, ¬ (a = 454 ∧ (s = 20 ∨ s = 51 ∨ (93 ≤ s ∧ s ≤ 95) ∨ s = 97 ∨ (99 ≤ s ∧ s ≤ 108))) → ¬ ((a = 815 ∨ a = 816) ∧ 0 ≤ s) → h' a s = h a s
theorem mkB_1 {h h' : AH} {N M : Int} (m : mkB h N) (e7 : h 454 97 ≤ h' 454 97 ∧ h' 454 97 ≤ M) (b7 : ∀ p, 0 ≤ p → p < 4096 → h' 815 p ≤ h' 454 97) (e9 : h' 454 99 = h 454 99 + 1) (b9 : ∀ p, 0 ≤ p → p < 4096 → h' 816 p ≤ h' 454 99) (l : N + 1 ≤ M) : mkB h' M := by
  have m1 := m.1
  have m3 := m.2.2.1
  exact ⟨by omega, b7, by omega, b9⟩
theorem snM_9 {h : AH} {L : LE} {k : Int} {l : List (Int → Int)} (s : snM h L k l) : ∀ p, 0 ≤ p → p < 4096 → h 816 p ≤ h 454 99 := fun p p0 p1 => (s.2.1 p p0 p1).1
theorem vX14_runs (a1 : Int) (a2 : Int) {h : AH} {E : EV} {Rf : Int → TR} {W : Int → Int → Int → VW} {L : LE} {N : Int} (hd : h 454 54 = 0 ∨ h 454 54 = 1) (ht : h 454 92 = 0 ∨ (h 454 92 ≠ 0 ∧ rnM h E Rf W L)) (mb : mkB h N ∧ N ≤ 900000000) : OK (gX14_runs a1 a2 h) (fun r => jt2 r fun v h' => ((h 454 54 = 1 ∧ v = -5 ∧ h' = jst h 454 51 0) ∨ (h 454 54 = 0 ∧ ((h 454 92 = 0 ∧ v = -2 ∧ h' = jst h 454 51 0) ∨ (h 454 92 ≠ 0 ∧ ((¬ ((0 ≤ a1 ∧ a1 < inN L) ∧ 0 ≤ a2 ∧ a2 ≤ 2) ∧ v = -1 ∧ h' = jst h 454 51 0) ∨ (((0 ≤ a1 ∧ a1 < inN L) ∧ 0 ≤ a2 ∧ a2 ≤ 2) ∧ rnM h' E Rf W L ∧ ∃ how met giv, RN W L a1 how met giv ∧ v = runV how met giv a2)))))) ∧ (fPk h h' ∧ h' 454 51 = 0 ∧ mkB h' (N + 257))) := by
  have MB := mb.1.1
  unfold gX14_runs
  refine OK_jb2 (vX14_isDown (by (first | assumption | omega | ((try dsimp only [jt2, jt3, jt4]); first | omega | (simp (disch := omega) only [jst_eq, jst_ne, jst_ni, jst_o, jI_i, jcpy_out, w32_id, jdiv_nn, jshr_k, jand_255] <;> first | done | omega | assumption)) | (intros; simp (disch := omega) only [jst_eq, jst_ne, jst_ni, jst_o, jI_i, jcpy_out, w32_id, jdiv_nn, *] <;> first | done | omega) | (intros; simp (disch := omega) only [jst_eq, jst_ne, jst_ni, jst_o, jI_i, jcpy_out, w32_id, jdiv_nn] at * <;> first | done | omega | assumption) | (intros; first | rfl | (exfalso; omega) | ((repeat' apply And.intro) <;> first | assumption | rfl | omega | trivial))))) (fun v2 h3 r1 => ?_)
  try dsimp only [Sum.elim_inl, Sum.elim_inr, jt2, jt3, jt4, jt5, jt6, jt7, jt8] at r1
  obtain ⟨dv1, dh1⟩ := r1
  try simp (disch := omega) only [jst_eq, jst_ne, jst_ni, jI_i, jcmp_lt, jcmp_gt, w32_id, jcpy_out, Sum.elim_inl, Sum.elim_inr, jt2, jt3, jt4, jt5, jt6, jt7, jt8] at dv1
  try simp (disch := omega) only [jst_eq, jst_ne, jst_ni, jI_i, jcmp_lt, jcmp_gt, w32_id, jcpy_out, Sum.elim_inl, Sum.elim_inr, jt2, jt3, jt4, jt5, jt6, jt7, jt8] at dh1
  have F3 : ∀ a x, ¬ (a = 454 ∧ x = 51) → h3 a x = h a x := fun a x y => by { rw [dh1]; exact jst_o y }
  have E92 : h3 454 92 = h 454 92 := F3 _ _ (by omega)
  have MB3 : mkB h3 N := by { obtain ⟨m1, m2, m3, m4⟩ := mb.1; unfold mkB; rw [F3 454 97 (by omega), F3 454 99 (by omega)]; exact ⟨m1, fun p p0 p1 => by (rw [F3 _ _ (by omega)]; exact m2 p p0 p1), m3, fun p p0 p1 => by (rw [F3 _ _ (by omega)]; exact m4 p p0 p1)⟩ }
  have R3 : fPk h h3 ∧ h3 454 51 = 0 ∧ mkB h3 (N + 257) := ⟨fun a s y1 y2 => F3 a s (by omega), by { rw [dh1, jst_eq] }, by { obtain ⟨m1, m2, m3, m4⟩ := MB3; exact ⟨by omega, m2, by omega, m4⟩ }⟩
  refine OK_if (fun c1 => ?_) (fun c1 => ?_)
  · skip
    try simp (disch := omega) only [jst_eq, jst_ne, jst_ni, jI_i, jcmp_lt, jcmp_gt, w32_id, jcpy_out, Sum.elim_inl, Sum.elim_inr, jt2, jt3, jt4, jt5, jt6, jt7, jt8] at c1
    refine OK_if (fun c2 => ?_) (fun c2 => ?_)
    · skip
      try simp (disch := omega) only [jst_eq, jst_ne, jst_ni, jI_i, jcmp_lt, jcmp_gt, w32_id, jcpy_out, Sum.elim_inl, Sum.elim_inr, jt2, jt3, jt4, jt5, jt6, jt7, jt8] at c2
      refine OK_some ?_
      try dsimp only [Sum.elim_inl, Sum.elim_inr, jt2, jt3, jt4, jt5, jt6, jt7, jt8]
      try dsimp only [Sum.elim_inl, Sum.elim_inr, jt2, jt3, jt4, jt5, jt6, jt7, jt8]
      refine ⟨?_, ?_⟩
      · exact Or.inr ⟨by omega, Or.inl ⟨by omega, rfl, dh1⟩⟩ -- o2 e1.1
      · exact R3 -- o3 e1.2
    · skip
      try simp (disch := omega) only [jst_eq, jst_ne, jst_ni, jI_i, jcmp_lt, jcmp_gt, w32_id, jcpy_out, Sum.elim_inl, Sum.elim_inr, jt2, jt3, jt4, jt5, jt6, jt7, jt8] at c2
      have rn := (ht.resolve_left (fun z => c2 (by omega))).2
      have v := rn.2.2
      have IB := inN_b v
      have RN3 : rnM h3 E Rf W L := rnM_51 rn F3
      refine OK_jb (vX14_inputs (E := E) (L := L) (by exact RN3.2.1) (by exact v)) (fun v7 r2 => ?_)
      try dsimp only [Sum.elim_inl, Sum.elim_inr, jt2, jt3, jt4, jt5, jt6, jt7, jt8] at r2
      have vi2 := r2
      clear r2
      try simp (disch := omega) only [jst_eq, jst_ne, jst_ni, jI_i, jcmp_lt, jcmp_gt, w32_id, jcpy_out, Sum.elim_inl, Sum.elim_inr, jt2, jt3, jt4, jt5, jt6, jt7, jt8] at vi2
      have V7 : v7 = inN L := by assumption
      have W7 : w32 (v7 - 1) = inN L - 1 := by { rw [V7, w32_id (by omega) (by omega)] }
      rw [W7]
      refine OK_jb (vX14_in _ _ _) (fun v9 r3 => ?_)
      try dsimp only [Sum.elim_inl, Sum.elim_inr, jt2, jt3, jt4, jt5, jt6, jt7, jt8] at r3
      have v3 := r3
      clear r3
      try simp (disch := omega) only [jst_eq, jst_ne, jst_ni, jI_i, jcmp_lt, jcmp_gt, w32_id, jcpy_out, Sum.elim_inl, Sum.elim_inr, jt2, jt3, jt4, jt5, jt6, jt7, jt8] at v3
      refine OK_if (fun c3 => ?_) (fun c3 => ?_)
      · skip
        try simp (disch := omega) only [jst_eq, jst_ne, jst_ni, jI_i, jcmp_lt, jcmp_gt, w32_id, jcpy_out, Sum.elim_inl, Sum.elim_inr, jt2, jt3, jt4, jt5, jt6, jt7, jt8] at c3
        refine OK_some ?_
        try dsimp only [Sum.elim_inl, Sum.elim_inr, jt2, jt3, jt4, jt5, jt6, jt7, jt8]
        try dsimp only [Sum.elim_inl, Sum.elim_inr, jt2, jt3, jt4, jt5, jt6, jt7, jt8]
        refine ⟨?_, ?_⟩
        · exact Or.inr ⟨by omega, Or.inr ⟨by omega, Or.inl ⟨by omega, rfl, dh1⟩⟩⟩ -- o6 e2.1
        · exact R3 -- o7 e2.2
      · skip
        try simp (disch := omega) only [jst_eq, jst_ne, jst_ni, jI_i, jcmp_lt, jcmp_gt, w32_id, jcpy_out, Sum.elim_inl, Sum.elim_inr, jt2, jt3, jt4, jt5, jt6, jt7, jt8] at c3
        refine OK_jb (vX14_in _ _ _) (fun v12 r4 => ?_)
        try dsimp only [Sum.elim_inl, Sum.elim_inr, jt2, jt3, jt4, jt5, jt6, jt7, jt8] at r4
        have v4 := r4
        clear r4
        try simp (disch := omega) only [jst_eq, jst_ne, jst_ni, jI_i, jcmp_lt, jcmp_gt, w32_id, jcpy_out, Sum.elim_inl, Sum.elim_inr, jt2, jt3, jt4, jt5, jt6, jt7, jt8] at v4
        refine OK_if (fun c4 => ?_) (fun c4 => ?_)
        · skip
          try simp (disch := omega) only [jst_eq, jst_ne, jst_ni, jI_i, jcmp_lt, jcmp_gt, w32_id, jcpy_out, Sum.elim_inl, Sum.elim_inr, jt2, jt3, jt4, jt5, jt6, jt7, jt8] at c4
          refine OK_some ?_
          try dsimp only [Sum.elim_inl, Sum.elim_inr, jt2, jt3, jt4, jt5, jt6, jt7, jt8]
          try dsimp only [Sum.elim_inl, Sum.elim_inr, jt2, jt3, jt4, jt5, jt6, jt7, jt8]
          refine ⟨?_, ?_⟩
          · exact Or.inr ⟨by omega, Or.inr ⟨by omega, Or.inl ⟨by omega, rfl, dh1⟩⟩⟩ -- o8 e3.1
          · exact R3 -- o9 e3.2
        · skip
          try simp (disch := omega) only [jst_eq, jst_ne, jst_ni, jI_i, jcmp_lt, jcmp_gt, w32_id, jcpy_out, Sum.elim_inl, Sum.elim_inr, jt2, jt3, jt4, jt5, jt6, jt7, jt8] at c4
          refine OK_jb (vX14_playAll (N := N) _ _ (by exact ⟨MB3, by omega⟩)) (fun h15 r5 => ?_)
          try dsimp only [Sum.elim_inl, Sum.elim_inr, jt2, jt3, jt4, jt5, jt6, jt7, jt8] at r5
          obtain ⟨sn5, cs5, fr5⟩ := r5
          try simp (disch := omega) only [jst_eq, jst_ne, jst_ni, jI_i, jcmp_lt, jcmp_gt, w32_id, jcpy_out, Sum.elim_inl, Sum.elim_inr, jt2, jt3, jt4, jt5, jt6, jt7, jt8] at sn5
          try simp (disch := omega) only [jst_eq, jst_ne, jst_ni, jI_i, jcmp_lt, jcmp_gt, w32_id, jcpy_out, Sum.elim_inl, Sum.elim_inr, jt2, jt3, jt4, jt5, jt6, jt7, jt8] at cs5
          try simp (disch := omega) only [jst_eq, jst_ne, jst_ni, jI_i, jcmp_lt, jcmp_gt, w32_id, jcpy_out, Sum.elim_inl, Sum.elim_inr, jt2, jt3, jt4, jt5, jt6, jt7, jt8] at fr5
          have B15 : bd20 h15 := by { unfold bd20; rw [fr5 _ _ (by omega)]; exact RN3.1.2.2 }
          have RN15 : rnM h15 E Rf W L := rnM_f RN3 B15 (fun a s y1 y2 => fr5 a s (by omega))
          refine OK_jb (vX14_play (E := E) (Rf := Rf) (W := W) (L := L) (H := []) (T := .leaf (0, 0, 0, 0)) (k := 0) _ (by exact RN15) (by omega) (by (have m2 := MB3.2.1; have m1 := MB3.1; rw [fr5 454 97 (by omega)]; exact ⟨by omega, fun p p0 p1 => by rw [fr5 _ _ (by omega)]; exact m2 p p0 p1⟩)) (by exact Or.inl cs5.1) (by omega) (by (show 0 ≤ 1990000; omega)) (by exact sn5 L)) (fun h17 r6 => ?_)
          try dsimp only [Sum.elim_inl, Sum.elim_inr, jt2, jt3, jt4, jt5, jt6, jt7, jt8] at r6
          obtain ⟨rr6, md6, mk6, fr6, bb6⟩ := r6
          try simp (disch := omega) only [jst_eq, jst_ne, jst_ni, jI_i, jcmp_lt, jcmp_gt, w32_id, jcpy_out, Sum.elim_inl, Sum.elim_inr, jt2, jt3, jt4, jt5, jt6, jt7, jt8] at rr6
          try simp (disch := omega) only [jst_eq, jst_ne, jst_ni, jI_i, jcmp_lt, jcmp_gt, w32_id, jcpy_out, Sum.elim_inl, Sum.elim_inr, jt2, jt3, jt4, jt5, jt6, jt7, jt8] at md6
          try simp (disch := omega) only [jst_eq, jst_ne, jst_ni, jI_i, jcmp_lt, jcmp_gt, w32_id, jcpy_out, Sum.elim_inl, Sum.elim_inr, jt2, jt3, jt4, jt5, jt6, jt7, jt8] at mk6
          try simp (disch := omega) only [jst_eq, jst_ne, jst_ni, jI_i, jcmp_lt, jcmp_gt, w32_id, jcpy_out, Sum.elim_inl, Sum.elim_inr, jt2, jt3, jt4, jt5, jt6, jt7, jt8] at fr6
          try simp (disch := omega) only [jst_eq, jst_ne, jst_ni, jI_i, jcmp_lt, jcmp_gt, w32_id, jcpy_out, Sum.elim_inl, Sum.elim_inr, jt2, jt3, jt4, jt5, jt6, jt7, jt8] at bb6
          have F17 : fPk h h17 := fun a s y1 y2 => by { rw [fr6.1 a s (by omega) y2, fr5 a s (by omega)]; exact F3 a s (by omega) }
          have MB17 : mkB h17 (N + 257) := mkB_1 MB3 (by { have := mk6.1; rw [fr5 454 97 (by omega)] at this; have := MB3.1; omega }) mk6.2 (by { rw [fr6.2.2, cs5.2] }) (snM_9 md6.1) (by omega)
          have RN17 : rnM h17 E Rf W L := rnM_f RN15 bb6 fr6.1
          have Z17 : h17 454 51 = 0 := by { rw [fr6.1 454 51 (by omega) (by omega), fr5 _ _ (by omega), dh1, jst_eq] }
          refine OK_if (fun c5 => ?_) (fun c5 => ?_)
          · skip
            try simp (disch := omega) only [jst_eq, jst_ne, jst_ni, jI_i, jcmp_lt, jcmp_gt, w32_id, jcpy_out, Sum.elim_inl, Sum.elim_inr, jt2, jt3, jt4, jt5, jt6, jt7, jt8] at c5
            refine OK_some ?_
            try dsimp only [Sum.elim_inl, Sum.elim_inr, jt2, jt3, jt4, jt5, jt6, jt7, jt8]
            try dsimp only [Sum.elim_inl, Sum.elim_inr, jt2, jt3, jt4, jt5, jt6, jt7, jt8]
            refine ⟨?_, ?_⟩
            · exact Or.inr ⟨by omega, Or.inr ⟨by omega, Or.inr ⟨by omega, RN17, _, _, _, rr6.1, by unfold runV; rw [if_pos (by omega)]⟩⟩⟩ -- o18 e4.1
            · exact ⟨F17, Z17, MB17⟩ -- o19 e4.2
          · skip
            try simp (disch := omega) only [jst_eq, jst_ne, jst_ni, jI_i, jcmp_lt, jcmp_gt, w32_id, jcpy_out, Sum.elim_inl, Sum.elim_inr, jt2, jt3, jt4, jt5, jt6, jt7, jt8] at c5
            refine OK_if (fun c6 => ?_) (fun c6 => ?_)
            · skip
              try simp (disch := omega) only [jst_eq, jst_ne, jst_ni, jI_i, jcmp_lt, jcmp_gt, w32_id, jcpy_out, Sum.elim_inl, Sum.elim_inr, jt2, jt3, jt4, jt5, jt6, jt7, jt8] at c6
              refine OK_some ?_
              try dsimp only [Sum.elim_inl, Sum.elim_inr, jt2, jt3, jt4, jt5, jt6, jt7, jt8]
              try dsimp only [Sum.elim_inl, Sum.elim_inr, jt2, jt3, jt4, jt5, jt6, jt7, jt8]
              refine ⟨?_, ?_⟩
              · exact Or.inr ⟨by omega, Or.inr ⟨by omega, Or.inr ⟨by omega, RN17, _, _, _, rr6.1, by unfold runV; rw [if_neg (by omega), if_pos (by omega)]⟩⟩⟩ -- o20 e5.1
              · exact ⟨F17, Z17, MB17⟩ -- o21 e5.2
            · skip
              try simp (disch := omega) only [jst_eq, jst_ne, jst_ni, jI_i, jcmp_lt, jcmp_gt, w32_id, jcpy_out, Sum.elim_inl, Sum.elim_inr, jt2, jt3, jt4, jt5, jt6, jt7, jt8] at c6
              refine OK_if (fun c7 => ?_) (fun c7 => ?_)
              · skip
                try simp (disch := omega) only [jst_eq, jst_ne, jst_ni, jI_i, jcmp_lt, jcmp_gt, w32_id, jcpy_out, Sum.elim_inl, Sum.elim_inr, jt2, jt3, jt4, jt5, jt6, jt7, jt8] at c7
                refine OK_some ?_
                try dsimp only [Sum.elim_inl, Sum.elim_inr, jt2, jt3, jt4, jt5, jt6, jt7, jt8]
                try dsimp only [Sum.elim_inl, Sum.elim_inr, jt2, jt3, jt4, jt5, jt6, jt7, jt8]
                refine ⟨?_, ?_⟩
                · exact Or.inr ⟨by omega, Or.inr ⟨by omega, Or.inr ⟨by omega, RN17, _, _, _, rr6.1, by unfold runV; rw [if_neg (by omega), if_neg (by omega), if_pos (by omega)]⟩⟩⟩ -- o22 e6.1
                · exact ⟨F17, Z17, MB17⟩ -- o23 e6.2
              · skip
                try simp (disch := omega) only [jst_eq, jst_ne, jst_ni, jI_i, jcmp_lt, jcmp_gt, w32_id, jcpy_out, Sum.elim_inl, Sum.elim_inr, jt2, jt3, jt4, jt5, jt6, jt7, jt8] at c7
                refine OK_some ?_
                try dsimp only [Sum.elim_inl, Sum.elim_inr, jt2, jt3, jt4, jt5, jt6, jt7, jt8]
                try dsimp only [Sum.elim_inl, Sum.elim_inr, jt2, jt3, jt4, jt5, jt6, jt7, jt8]
                refine ⟨?_, ?_⟩
                · exact Or.inr ⟨by omega, Or.inr ⟨by omega, Or.inr ⟨by omega, RN17, _, _, _, rr6.1, by unfold runV; rw [if_neg (by omega), if_neg (by omega), if_neg (by omega)]⟩⟩⟩ -- o24 e7.1
                · exact ⟨F17, Z17, MB17⟩ -- o25 e7.2
  · skip
    try simp (disch := omega) only [jst_eq, jst_ne, jst_ni, jI_i, jcmp_lt, jcmp_gt, w32_id, jcpy_out, Sum.elim_inl, Sum.elim_inr, jt2, jt3, jt4, jt5, jt6, jt7, jt8] at c1
    refine OK_some ?_
    try dsimp only [Sum.elim_inl, Sum.elim_inr, jt2, jt3, jt4, jt5, jt6, jt7, jt8]
    try dsimp only [Sum.elim_inl, Sum.elim_inr, jt2, jt3, jt4, jt5, jt6, jt7, jt8]
    refine ⟨?_, ?_⟩
    · exact Or.inl ⟨by omega, rfl, dh1⟩ -- o26 e8.1
    · exact R3 -- o27 e8.2
theorem vX14_span (a1 : Int) (a2 : Int) {h : AH} {E : EV} {Rf : Int → TR} {W : Int → Int → Int → VW} {L : LE} {N : Int} (hd : h 454 54 = 0 ∨ h 454 54 = 1) (ht : h 454 92 = 0 ∨ (h 454 92 ≠ 0 ∧ rnM h E Rf W L)) (mb : mkB h N ∧ N ≤ 800000000) : OK (gX14_span a1 a2 h) (fun r => jt2 r fun v h' => ((h 454 54 = 1 ∧ v = -5 ∧ h' = jst h 454 51 0) ∨ (h 454 54 = 0 ∧ ((h 454 92 = 0 ∧ v = -2 ∧ h' = jst h 454 51 0) ∨ (h 454 92 ≠ 0 ∧ ((¬ ((0 ≤ a1 ∧ a1 < L.2.1.1) ∧ 0 ≤ a2 ∧ a2 ≤ 1) ∧ v = -1 ∧ h' = jst h 454 51 0) ∨ (((0 ≤ a1 ∧ a1 < L.2.1.1) ∧ 0 ≤ a2 ∧ a2 ≤ 1) ∧ rnM h' E Rf W L ∧ ∃ H, HS W L (inN L).toNat H ∧ v = spnV H a1 a2)))))) ∧ (fPk h h' ∧ h' 454 51 = 0 ∧ mkB h' (N + 257))) := by
  have MB := mb.1.1
  unfold gX14_span
  refine OK_jb2 (vX14_isDown (by (first | assumption | omega | ((try dsimp only [jt2, jt3, jt4]); first | omega | (simp (disch := omega) only [jst_eq, jst_ne, jst_ni, jst_o, jI_i, jcpy_out, w32_id, jdiv_nn, jshr_k, jand_255] <;> first | done | omega | assumption)) | (intros; simp (disch := omega) only [jst_eq, jst_ne, jst_ni, jst_o, jI_i, jcpy_out, w32_id, jdiv_nn, *] <;> first | done | omega) | (intros; simp (disch := omega) only [jst_eq, jst_ne, jst_ni, jst_o, jI_i, jcpy_out, w32_id, jdiv_nn] at * <;> first | done | omega | assumption) | (intros; first | rfl | (exfalso; omega) | ((repeat' apply And.intro) <;> first | assumption | rfl | omega | trivial))))) (fun v2 h3 r1 => ?_)
  try dsimp only [Sum.elim_inl, Sum.elim_inr, jt2, jt3, jt4, jt5, jt6, jt7, jt8] at r1
  obtain ⟨dv1, dh1⟩ := r1
  try simp (disch := omega) only [jst_eq, jst_ne, jst_ni, jI_i, jcmp_lt, jcmp_gt, w32_id, jcpy_out, Sum.elim_inl, Sum.elim_inr, jt2, jt3, jt4, jt5, jt6, jt7, jt8] at dv1
  try simp (disch := omega) only [jst_eq, jst_ne, jst_ni, jI_i, jcmp_lt, jcmp_gt, w32_id, jcpy_out, Sum.elim_inl, Sum.elim_inr, jt2, jt3, jt4, jt5, jt6, jt7, jt8] at dh1
  have F3 : ∀ a x, ¬ (a = 454 ∧ x = 51) → h3 a x = h a x := fun a x y => by { rw [dh1]; exact jst_o y }
  have E92 : h3 454 92 = h 454 92 := F3 _ _ (by omega)
  have MB3 : mkB h3 N := by { obtain ⟨m1, m2, m3, m4⟩ := mb.1; unfold mkB; rw [F3 454 97 (by omega), F3 454 99 (by omega)]; exact ⟨m1, fun p p0 p1 => by (rw [F3 _ _ (by omega)]; exact m2 p p0 p1), m3, fun p p0 p1 => by (rw [F3 _ _ (by omega)]; exact m4 p p0 p1)⟩ }
  have R3 : fPk h h3 ∧ h3 454 51 = 0 ∧ mkB h3 (N + 257) := ⟨fun a s y1 y2 => F3 a s (by omega), by { rw [dh1, jst_eq] }, by { obtain ⟨m1, m2, m3, m4⟩ := MB3; exact ⟨by omega, m2, by omega, m4⟩ }⟩
  refine OK_if (fun c1 => ?_) (fun c1 => ?_)
  · skip
    try simp (disch := omega) only [jst_eq, jst_ne, jst_ni, jI_i, jcmp_lt, jcmp_gt, w32_id, jcpy_out, Sum.elim_inl, Sum.elim_inr, jt2, jt3, jt4, jt5, jt6, jt7, jt8] at c1
    refine OK_if (fun c2 => ?_) (fun c2 => ?_)
    · skip
      try simp (disch := omega) only [jst_eq, jst_ne, jst_ni, jI_i, jcmp_lt, jcmp_gt, w32_id, jcpy_out, Sum.elim_inl, Sum.elim_inr, jt2, jt3, jt4, jt5, jt6, jt7, jt8] at c2
      refine OK_some ?_
      try dsimp only [Sum.elim_inl, Sum.elim_inr, jt2, jt3, jt4, jt5, jt6, jt7, jt8]
      try dsimp only [Sum.elim_inl, Sum.elim_inr, jt2, jt3, jt4, jt5, jt6, jt7, jt8]
      refine ⟨?_, ?_⟩
      · exact Or.inr ⟨by omega, Or.inl ⟨by omega, rfl, dh1⟩⟩ -- o2 e1.1
      · exact R3 -- o3 e1.2
    · skip
      try simp (disch := omega) only [jst_eq, jst_ne, jst_ni, jI_i, jcmp_lt, jcmp_gt, w32_id, jcpy_out, Sum.elim_inl, Sum.elim_inr, jt2, jt3, jt4, jt5, jt6, jt7, jt8] at c2
      have rn := (ht.resolve_left (fun z => c2 (by omega))).2
      have v := rn.2.2
      have n3 := v.2.1
      have IB := inN_b v
      have RN3 : rnM h3 E Rf W L := rnM_51 rn F3
      have LM := RN3.2.1.2.2.1
      have W7 : w32 (h3 (h3 454 92) 4 - 1) = L.2.1.1 - 1 := by { rw [LM, w32_id (by omega) (by omega)] }
      rw [W7]
      refine OK_jg (by (have q := RN3.2.1.1; unfold isX17; exact q)) ?_ -- o4
      refine OK_jb (vX14_in _ _ _) (fun v7 r2 => ?_)
      try dsimp only [Sum.elim_inl, Sum.elim_inr, jt2, jt3, jt4, jt5, jt6, jt7, jt8] at r2
      have v2 := r2
      clear r2
      try simp (disch := omega) only [jst_eq, jst_ne, jst_ni, jI_i, jcmp_lt, jcmp_gt, w32_id, jcpy_out, Sum.elim_inl, Sum.elim_inr, jt2, jt3, jt4, jt5, jt6, jt7, jt8] at v2
      refine OK_if (fun c3 => ?_) (fun c3 => ?_)
      · skip
        try simp (disch := omega) only [jst_eq, jst_ne, jst_ni, jI_i, jcmp_lt, jcmp_gt, w32_id, jcpy_out, Sum.elim_inl, Sum.elim_inr, jt2, jt3, jt4, jt5, jt6, jt7, jt8] at c3
        refine OK_some ?_
        try dsimp only [Sum.elim_inl, Sum.elim_inr, jt2, jt3, jt4, jt5, jt6, jt7, jt8]
        try dsimp only [Sum.elim_inl, Sum.elim_inr, jt2, jt3, jt4, jt5, jt6, jt7, jt8]
        refine ⟨?_, ?_⟩
        · exact Or.inr ⟨by omega, Or.inr ⟨by omega, Or.inl ⟨by omega, rfl, dh1⟩⟩⟩ -- o5 e2.1
        · exact R3 -- o6 e2.2
      · skip
        try simp (disch := omega) only [jst_eq, jst_ne, jst_ni, jI_i, jcmp_lt, jcmp_gt, w32_id, jcpy_out, Sum.elim_inl, Sum.elim_inr, jt2, jt3, jt4, jt5, jt6, jt7, jt8] at c3
        refine OK_jb (vX14_in _ _ _) (fun v10 r3 => ?_)
        try dsimp only [Sum.elim_inl, Sum.elim_inr, jt2, jt3, jt4, jt5, jt6, jt7, jt8] at r3
        have v3 := r3
        clear r3
        try simp (disch := omega) only [jst_eq, jst_ne, jst_ni, jI_i, jcmp_lt, jcmp_gt, w32_id, jcpy_out, Sum.elim_inl, Sum.elim_inr, jt2, jt3, jt4, jt5, jt6, jt7, jt8] at v3
        refine OK_if (fun c4 => ?_) (fun c4 => ?_)
        · skip
          try simp (disch := omega) only [jst_eq, jst_ne, jst_ni, jI_i, jcmp_lt, jcmp_gt, w32_id, jcpy_out, Sum.elim_inl, Sum.elim_inr, jt2, jt3, jt4, jt5, jt6, jt7, jt8] at c4
          refine OK_some ?_
          try dsimp only [Sum.elim_inl, Sum.elim_inr, jt2, jt3, jt4, jt5, jt6, jt7, jt8]
          try dsimp only [Sum.elim_inl, Sum.elim_inr, jt2, jt3, jt4, jt5, jt6, jt7, jt8]
          refine ⟨?_, ?_⟩
          · exact Or.inr ⟨by omega, Or.inr ⟨by omega, Or.inl ⟨by omega, rfl, dh1⟩⟩⟩ -- o7 e3.1
          · exact R3 -- o8 e3.2
        · skip
          try simp (disch := omega) only [jst_eq, jst_ne, jst_ni, jI_i, jcmp_lt, jcmp_gt, w32_id, jcpy_out, Sum.elim_inl, Sum.elim_inr, jt2, jt3, jt4, jt5, jt6, jt7, jt8] at c4
          refine OK_jb (vX14_playAll (N := N) _ _ (by exact ⟨MB3, by omega⟩)) (fun h13 r4 => ?_)
          try dsimp only [Sum.elim_inl, Sum.elim_inr, jt2, jt3, jt4, jt5, jt6, jt7, jt8] at r4
          obtain ⟨sn4, cs4, fr4⟩ := r4
          try simp (disch := omega) only [jst_eq, jst_ne, jst_ni, jI_i, jcmp_lt, jcmp_gt, w32_id, jcpy_out, Sum.elim_inl, Sum.elim_inr, jt2, jt3, jt4, jt5, jt6, jt7, jt8] at sn4
          try simp (disch := omega) only [jst_eq, jst_ne, jst_ni, jI_i, jcmp_lt, jcmp_gt, w32_id, jcpy_out, Sum.elim_inl, Sum.elim_inr, jt2, jt3, jt4, jt5, jt6, jt7, jt8] at cs4
          try simp (disch := omega) only [jst_eq, jst_ne, jst_ni, jI_i, jcmp_lt, jcmp_gt, w32_id, jcpy_out, Sum.elim_inl, Sum.elim_inr, jt2, jt3, jt4, jt5, jt6, jt7, jt8] at fr4
          have B13 : bd20 h13 := by { unfold bd20; rw [fr4 _ _ (by omega)]; exact RN3.1.2.2 }
          have RN13 : rnM h13 E Rf W L := rnM_f RN3 B13 (fun a s y1 y2 => fr4 a s (by omega))
          refine OK_jb (vX14_span_l59 (E := E) (Rf := Rf) (W := W) (L := L) (k := a1) (N := N + 1) _ _ (by exact RN13) (by exact ⟨mkB_1 MB3 (by rw [fr4 _ _ (by omega)]; have := MB3.1; omega) (fun p p0 p1 => by rw [fr4 _ _ (by omega), fr4 _ _ (by omega)]; exact MB3.2.1 p p0 p1) cs4.2 (snM_9 (sn4 L)) (by omega), by omega⟩) (by exact cs4.1) (by omega) (by exact sn4 L) (by rfl)) (fun o14 r5 => ?_)
          try dsimp only [Sum.elim_inl, Sum.elim_inr, jt2, jt3, jt4, jt5, jt6, jt7, jt8] at r5
          obtain ⟨q15, q25, fr5, bb5⟩ := r5
          try simp (disch := omega) only [jst_eq, jst_ne, jst_ni, jI_i, jcmp_lt, jcmp_gt, w32_id, jcpy_out, Sum.elim_inl, Sum.elim_inr, jt2, jt3, jt4, jt5, jt6, jt7, jt8] at q15
          try simp (disch := omega) only [jst_eq, jst_ne, jst_ni, jI_i, jcmp_lt, jcmp_gt, w32_id, jcpy_out, Sum.elim_inl, Sum.elim_inr, jt2, jt3, jt4, jt5, jt6, jt7, jt8] at q25
          try simp (disch := omega) only [jst_eq, jst_ne, jst_ni, jI_i, jcmp_lt, jcmp_gt, w32_id, jcpy_out, Sum.elim_inl, Sum.elim_inr, jt2, jt3, jt4, jt5, jt6, jt7, jt8] at fr5
          try simp (disch := omega) only [jst_eq, jst_ne, jst_ni, jI_i, jcmp_lt, jcmp_gt, w32_id, jcpy_out, Sum.elim_inl, Sum.elim_inr, jt2, jt3, jt4, jt5, jt6, jt7, jt8] at bb5
          have Q14 : ∃ H, HS W L (inN L).toNat H ∧ snM o14 L a1 H := by assumption
          obtain ⟨H, H1, H2⟩ := Q14
          have F14 : fPl h13 o14 ∧ o14 454 100 = h13 454 100 ∧ o14 454 99 = h13 454 99 := by assumption
          have M14 : o14 454 97 = h13 454 97 + inN L ∧ ∀ p, 0 ≤ p → p < 4096 → o14 815 p ≤ o14 454 97 := by assumption
          have BB14 : bd20 o14 := by assumption
          have F17 : fPk h o14 := fun a s y1 y2 => by { rw [F14.1 a s (by omega) y2, fr4 a s (by omega)]; exact F3 a s (by omega) }
          have MB17 : mkB o14 (N + 257) := mkB_1 MB3 (by { rw [M14.1, fr4 454 97 (by omega)]; have := MB3.1; omega }) M14.2 (by { rw [F14.2.2, cs4.2] }) (snM_9 H2) (by omega)
          have RN17 : rnM o14 E Rf W L := rnM_f RN13 BB14 F14.1
          have Z17 : o14 454 51 = 0 := by { rw [F14.1 454 51 (by omega) (by omega), fr4 _ _ (by omega), dh1, jst_eq] }
          have G4 : o14 454 104 = gtR a1 H ∧ o14 454 103 = lsR a1 H := ⟨H2.2.2.2.2.2, H2.2.2.2.2.1⟩
          have HE : H = [] ∨ (H ≠ [] ∧ 0 ≤ gtR a1 H) := by { by_cases y : H = []; { exact Or.inl y }; { exact Or.inr ⟨y, gtR_0 (by omega) (by omega) y (fun s m => (H2.1 s m).1.1)⟩ } }
          have HE2 : H = [] → gtR a1 H = -1 := fun z => by { rw [z]; rfl }
          refine OK_if (fun c5 => ?_) (fun c5 => ?_)
          · skip
            try simp (disch := omega) only [jst_eq, jst_ne, jst_ni, jI_i, jcmp_lt, jcmp_gt, w32_id, jcpy_out, Sum.elim_inl, Sum.elim_inr, jt2, jt3, jt4, jt5, jt6, jt7, jt8] at c5
            refine OK_if (fun c6 => ?_) (fun c6 => ?_)
            · skip
              try simp (disch := omega) only [jst_eq, jst_ne, jst_ni, jI_i, jcmp_lt, jcmp_gt, w32_id, jcpy_out, Sum.elim_inl, Sum.elim_inr, jt2, jt3, jt4, jt5, jt6, jt7, jt8] at c6
              refine OK_some ?_
              try dsimp only [Sum.elim_inl, Sum.elim_inr, jt2, jt3, jt4, jt5, jt6, jt7, jt8]
              try dsimp only [Sum.elim_inl, Sum.elim_inr, jt2, jt3, jt4, jt5, jt6, jt7, jt8]
              refine ⟨?_, ?_⟩
              · exact Or.inr ⟨by omega, Or.inr ⟨by omega, Or.inr ⟨by omega, RN17, H, H1, by unfold spnV; rw [if_pos (by omega), if_neg (by rcases HE with z | z; { have := HE2 z; omega }; { exact z.1 })]; exact G4.2⟩⟩⟩ -- o16 e4.1
              · exact ⟨F17, Z17, MB17⟩ -- o17 e4.2
            · skip
              try simp (disch := omega) only [jst_eq, jst_ne, jst_ni, jI_i, jcmp_lt, jcmp_gt, w32_id, jcpy_out, Sum.elim_inl, Sum.elim_inr, jt2, jt3, jt4, jt5, jt6, jt7, jt8] at c6
              refine OK_some ?_
              try dsimp only [Sum.elim_inl, Sum.elim_inr, jt2, jt3, jt4, jt5, jt6, jt7, jt8]
              try dsimp only [Sum.elim_inl, Sum.elim_inr, jt2, jt3, jt4, jt5, jt6, jt7, jt8]
              refine ⟨?_, ?_⟩
              · exact Or.inr ⟨by omega, Or.inr ⟨by omega, Or.inr ⟨by omega, RN17, H, H1, by unfold spnV; rw [if_neg (by omega)]; exact G4.1⟩⟩⟩ -- o18 e5.1
              · exact ⟨F17, Z17, MB17⟩ -- o19 e5.2
          · skip
            try simp (disch := omega) only [jst_eq, jst_ne, jst_ni, jI_i, jcmp_lt, jcmp_gt, w32_id, jcpy_out, Sum.elim_inl, Sum.elim_inr, jt2, jt3, jt4, jt5, jt6, jt7, jt8] at c5
            refine OK_some ?_
            try dsimp only [Sum.elim_inl, Sum.elim_inr, jt2, jt3, jt4, jt5, jt6, jt7, jt8]
            try dsimp only [Sum.elim_inl, Sum.elim_inr, jt2, jt3, jt4, jt5, jt6, jt7, jt8]
            refine ⟨?_, ?_⟩
            · exact Or.inr ⟨by omega, Or.inr ⟨by omega, Or.inr ⟨by omega, RN17, H, H1, by have HN : H = [] := (by rcases HE with z | z; { exact z }; { omega }); unfold spnV; rw [if_pos HN, HN]; show (-1 : Int) = if a2 = 0 then -1 else -1; split <;> rfl⟩⟩⟩ -- o20 e6.1
            · exact ⟨F17, Z17, MB17⟩ -- o21 e6.2
  · skip
    try simp (disch := omega) only [jst_eq, jst_ne, jst_ni, jI_i, jcmp_lt, jcmp_gt, w32_id, jcpy_out, Sum.elim_inl, Sum.elim_inr, jt2, jt3, jt4, jt5, jt6, jt7, jt8] at c1
    refine OK_some ?_
    try dsimp only [Sum.elim_inl, Sum.elim_inr, jt2, jt3, jt4, jt5, jt6, jt7, jt8]
    try dsimp only [Sum.elim_inl, Sum.elim_inr, jt2, jt3, jt4, jt5, jt6, jt7, jt8]
    refine ⟨?_, ?_⟩
    · exact Or.inl ⟨by omega, rfl, dh1⟩ -- o22 e7.1
    · exact R3 -- o23 e7.2

