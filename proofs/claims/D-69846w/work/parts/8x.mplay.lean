/-! m: a state is met; a run -/
/-- a loop as m keeps it -/
def loM (h : AH) (L : LE) : Prop := (h 454 92 = 805 ∨ h 454 92 = 810) ∧ h (h 454 92) 2 = L.1.1 ∧ h (h 454 92) 4 = L.2.1.1 ∧ (∀ k, 0 ≤ k → k < L.1.1 → h (h 454 92 + 1) k = kch (L.1.2 k)) ∧ (∀ k, 0 ≤ k → k < L.2.1.1 → h (h 454 92 + 2) k = kch (L.2.1.2 k) ∧ atM h (L.2.2.1 k) (h (h 454 92 + 3) k) ∧ atM h (L.2.2.2.2.1 k) (h (h 454 92 + 4) k)) ∧ atM h L.2.2.2.1 (h (h 454 92) 6) ∧ atM h L.2.2.2.2.2 (h (h 454 92) 8) ∧ (h (h 454 92 + 1) (-2) = 101 ∧ h (h 454 92 + 1) (-1) = 2) ∧ (h (h 454 92 + 3) (-2) = 101 ∧ h (h 454 92 + 3) (-1) = 4) ∧ h (h 454 92 + 4) (-2) = 101 ∧ h (h 454 92 + 4) (-1) = 4
/-- what a run may change -/
def fPl (h h' : AH) : Prop := ∀ a s, ¬ (a = 454 ∧ (s = 20 ∨ (93 ≤ s ∧ s ≤ 95) ∨ s = 97 ∨ (99 ≤ s ∧ s ≤ 108))) → ¬ ((a = 815 ∨ a = 816) ∧ 0 ≤ s) → h' a s = h a s
theorem fPl_r {h : AH} : fPl h h := fun _ _ _ _ => rfl
theorem fPl_t {h h1 h2 : AH} (a : fPl h h1) (b : fPl h1 h2) : fPl h h2 := fun x s y1 y2 => (b x s y1 y2).trans (a x s y1 y2)
theorem loM_f {h h' : AH} {L : LE} (c : loM h L) (g : fPl h h') : loM h' L := by
  obtain ⟨c1, c2, c3, c4, c5, c6, c7, c8, c9, ca⟩ := c
  have e : h' 454 92 = h 454 92 := g _ _ (by omega) (by omega)
  have vf : ∀ {R : TR} {d : Int}, atM h R d → atM h' R d := fun v => atM_f v (fun a s a0 a1 => g a s (by omega) (by omega))
  unfold loM
  rw [e, g (h 454 92) 2 (by omega) (by omega), g (h 454 92) 4 (by omega) (by omega), g (h 454 92) 6 (by omega) (by omega), g (h 454 92) 8 (by omega) (by omega), g (h 454 92 + 1) (-2) (by omega) (by omega), g (h 454 92 + 1) (-1) (by omega) (by omega), g (h 454 92 + 3) (-2) (by omega) (by omega), g (h 454 92 + 3) (-1) (by omega) (by omega), g (h 454 92 + 4) (-2) (by omega) (by omega), g (h 454 92 + 4) (-1) (by omega) (by omega)]
  refine ⟨c1, c2, c3, fun k k0 k1 => by rw [g _ _ (by omega) (by omega)]; exact c4 k k0 k1, fun k k0 k1 => ?_, vf c6, vf c7, c8, c9, ca⟩
  rw [g (h 454 92 + 2) k (by omega) (by omega), g (h 454 92 + 3) k (by omega) (by omega), g (h 454 92 + 4) k (by omega) (by omega)]
  have q := c5 k k0 k1
  exact ⟨q.1, vf q.2.1, vf q.2.2⟩
def rnM (h : AH) (E : EV) (Rf : Int → TR) (W : Int → Int → Int → VW) (L : LE) : Prop := wkM h E Rf W ∧ loM h L ∧ vLE E L
theorem rnM_f {h h' : AH} {E : EV} {Rf : Int → TR} {W : Int → Int → Int → VW} {L : LE} (r : rnM h E Rf W L) (b : bd20 h') (g : fPl h h') : rnM h' E Rf W L := ⟨wkM_f r.1 b (fun a s y => g a s (by omega) (by omega)), loM_f r.2.1 g, r.2.2⟩
theorem rnM_a {h : AH} {E : EV} {Rf : Int → TR} {W : Int → Int → Int → VW} {L : LE} (r : rnM h E Rf W L) : acE E ∧ wTy E W := ⟨r.1.1.2.1, wOK_ty r.1.1.2.2.1⟩
/-- the term that is asked -/
def akT (h : AH) (E : EV) (L : LE) (T : TR) : Prop := h 454 100 = -1 ∨ (0 ≤ h 454 100 ∧ atM h T (h 454 100) ∧ tmW E L.2.1.1 L.2.1.2 T 1)
theorem p3_s {s : Int → Int} {m : Int} (m3 : m ≤ 3) : ∀ c, 0 ≤ c → c < m → p3 (s 0) (s 1) (s 2) c = s c := fun c c0 c1 => by
  unfold p3
  rcases (show c = 0 ∨ c = 1 ∨ c = 2 by omega) with e | e | e
  · rw [if_pos e, e]
  · rw [if_neg (by omega), if_pos e, e]
  · rw [if_neg (by omega), if_neg (by omega), e]
theorem vX14_meet_j96 (t0 : Int) {h : AH} {E : EV} {Rf : Int → TR} {W : Int → Int → Int → VW} {L : LE} {T : TR} {s9 : Int → Int} (w : wkM h E Rf W) (v : vLE E L) (sv : vlS L s9 ∧ s3M h s9) (ak : akT h E L T) (c5 : 1 ≤ h 454 105 ∧ h 454 105 ≤ 5000) : OK (gX14_meet_j96 t0 h) (fun h' => (h' 454 103 = min (h 454 103) t0 ∧ h' 454 104 = max (h 454 104) t0) ∧ ((h 454 100 = -1 → h' 454 101 = h 454 101) ∧ (h 454 100 ≠ -1 → (h 454 101 < 0 ∧ evL W T s9 = 1 ∧ h' 454 101 = h 454 101) ∨ (h 454 101 < 0 ∧ evL W T s9 ≠ 1 ∧ h' 454 101 = h 454 105 - 1) ∨ (0 ≤ h 454 101 ∧ h' 454 101 = h 454 101))) ∧ (∀ a s, ¬ (a = 454 ∧ (s = 20 ∨ s = 101 ∨ s = 103 ∨ s = 104)) → h' a s = h a s) ∧ (bd20 h')) := by
  have n3 := v.2.1
  unfold gX14_meet_j96
  refine OK_jl ?_
  refine OK_jl ?_
  have F9 : ∀ a s, ¬ (a = 454 ∧ (s = 103 ∨ s = 104)) → jst (jst h 454 103 (min (h 454 103) t0)) 454 104 (max (jst h 454 103 (min (h 454 103) t0) 454 104) t0) a s = h a s := fun a s y => by { rw [jst_o (by omega), jst_o (by omega)] }
  have C9 : jst (jst h 454 103 (min (h 454 103) t0)) 454 104 (max (jst h 454 103 (min (h 454 103) t0) 454 104) t0) 454 103 = min (h 454 103) t0 ∧ jst (jst h 454 103 (min (h 454 103) t0)) 454 104 (max (jst h 454 103 (min (h 454 103) t0) 454 104) t0) 454 104 = max (h 454 104) t0 := ⟨by { rw [jst_ni (by decide), jst_eq] }, by { rw [jst_eq, jst_ni (by decide)] }⟩
  generalize jst (jst h 454 103 (min (h 454 103) t0)) 454 104 (max (jst h 454 103 (min (h 454 103) t0) 454 104) t0) = g9 at *
  have E100 : g9 454 100 = h 454 100 := F9 _ _ (by omega)
  have E101 : g9 454 101 = h 454 101 := F9 _ _ (by omega)
  have E105 : g9 454 105 = h 454 105 := F9 _ _ (by omega)
  have B9 : bd20 g9 := by { unfold bd20; rw [F9 _ _ (by omega)]; exact w.2.2 }
  have S9 : g9 454 93 = s9 0 ∧ g9 454 94 = s9 1 ∧ g9 454 95 = s9 2 := by { rw [F9 _ _ (by omega), F9 _ _ (by omega), F9 _ _ (by omega)]; exact sv.2 }
  rw [E100, E101, S9.1, S9.2.1, S9.2.2]
  refine OK_if (fun c1 => ?_) (fun c1 => ?_)
  · skip
    try simp (disch := omega) only [jst_eq, jst_ne, jst_ni, jI_i, jcmp_lt, jcmp_gt, w32_id, jcpy_out, Sum.elim_inl, Sum.elim_inr, jt2, jt3, jt4, jt5, jt6, jt7, jt8] at c1
    refine OK_some ?_
    try dsimp only [Sum.elim_inl, Sum.elim_inr, jt2, jt3, jt4, jt5, jt6, jt7, jt8]
    try dsimp only [Sum.elim_inl, Sum.elim_inr, jt2, jt3, jt4, jt5, jt6, jt7, jt8]
    refine ⟨?_, ?_, ?_, ?_⟩
    · exact C9 -- o1 e1.1
    · exact ⟨fun _ => E101, fun z => by rcases ak with y | y; { exact absurd y z }; { omega }⟩ -- o2 e1.2
    · exact fun a s y => F9 a s (by omega) -- o3 e1.3
    · exact B9 -- o4 e1.4
  · skip
    try simp (disch := omega) only [jst_eq, jst_ne, jst_ni, jI_i, jcmp_lt, jcmp_gt, w32_id, jcpy_out, Sum.elim_inl, Sum.elim_inr, jt2, jt3, jt4, jt5, jt6, jt7, jt8] at c1
    refine OK_if (fun c2 => ?_) (fun c2 => ?_)
    · skip
      try simp (disch := omega) only [jst_eq, jst_ne, jst_ni, jI_i, jcmp_lt, jcmp_gt, w32_id, jcpy_out, Sum.elim_inl, Sum.elim_inr, jt2, jt3, jt4, jt5, jt6, jt7, jt8] at c2
      refine OK_some ?_
      try dsimp only [Sum.elim_inl, Sum.elim_inr, jt2, jt3, jt4, jt5, jt6, jt7, jt8]
      try dsimp only [Sum.elim_inl, Sum.elim_inr, jt2, jt3, jt4, jt5, jt6, jt7, jt8]
      refine ⟨?_, ?_, ?_, ?_⟩
      · exact C9 -- o5 e2.1
      · exact ⟨fun z => E101, fun _ => Or.inr (Or.inr ⟨by omega, E101⟩)⟩ -- o6 e2.2
      · exact fun a s y => F9 a s (by omega) -- o7 e2.3
      · exact B9 -- o8 e2.4
    · skip
      try simp (disch := omega) only [jst_eq, jst_ne, jst_ni, jI_i, jcmp_lt, jcmp_gt, w32_id, jcpy_out, Sum.elim_inl, Sum.elim_inr, jt2, jt3, jt4, jt5, jt6, jt7, jt8] at c2
      have AK := ak.resolve_left (fun z => by omega)
      refine OK_jb2 (ans_M (E := E) (Rf := Rf) (W := W) (np := L.2.1.1) (kp := L.2.1.2) (R := T) (k := 1) _ _ _ _ _ (by exact wkM_f w B9 (fun a s y => F9 a s (by omega))) (by exact atM_f AK.2.1 (fun a s a0 a1 => F9 a s (by omega))) (by exact AK.2.2) (by exact ⟨fun n n0 n1 => by rw [p3_s (by omega) n n0 n1]; exact sv.1 n n0 n1, by omega, by omega⟩)) (fun v13 h14 r1 => ?_)
      try dsimp only [Sum.elim_inl, Sum.elim_inr, jt2, jt3, jt4, jt5, jt6, jt7, jt8] at r1
      obtain ⟨ev1, fs1, bs1⟩ := r1
      try simp (disch := omega) only [jst_eq, jst_ne, jst_ni, jI_i, jcmp_lt, jcmp_gt, w32_id, jcpy_out, Sum.elim_inl, Sum.elim_inr, jt2, jt3, jt4, jt5, jt6, jt7, jt8] at ev1
      try simp (disch := omega) only [jst_eq, jst_ne, jst_ni, jI_i, jcmp_lt, jcmp_gt, w32_id, jcpy_out, Sum.elim_inl, Sum.elim_inr, jt2, jt3, jt4, jt5, jt6, jt7, jt8] at fs1
      try simp (disch := omega) only [jst_eq, jst_ne, jst_ni, jI_i, jcmp_lt, jcmp_gt, w32_id, jcpy_out, Sum.elim_inl, Sum.elim_inr, jt2, jt3, jt4, jt5, jt6, jt7, jt8] at bs1
      have V13 : v13 = evL W T s9 := by { rw [ev1]; exact evL_c AK.2.2.2.2.1 (fun c c0 c1 => p3_s (by omega) c c0 c1) }
      have F14 : ∀ a s, ¬ (a = 454 ∧ (s = 20 ∨ s = 103 ∨ s = 104)) → h14 a s = h a s := fun a s y => by { rw [fs1 a s (by omega)]; exact F9 a s (by omega) }
      have E105b : h14 454 105 = h 454 105 := F14 _ _ (by omega)
      have C14 : h14 454 103 = min (h 454 103) t0 ∧ h14 454 104 = max (h 454 104) t0 := by { rw [fs1 _ _ (by omega), fs1 _ _ (by omega)]; exact C9 }
      rw [E105b, w32_id (x := h 454 105 - 1) (by omega) (by omega)]
      refine OK_if (fun c3 => ?_) (fun c3 => ?_)
      · skip
        try simp (disch := omega) only [jst_eq, jst_ne, jst_ni, jI_i, jcmp_lt, jcmp_gt, w32_id, jcpy_out, Sum.elim_inl, Sum.elim_inr, jt2, jt3, jt4, jt5, jt6, jt7, jt8] at c3
        refine OK_some ?_
        try dsimp only [Sum.elim_inl, Sum.elim_inr, jt2, jt3, jt4, jt5, jt6, jt7, jt8]
        try dsimp only [Sum.elim_inl, Sum.elim_inr, jt2, jt3, jt4, jt5, jt6, jt7, jt8]
        refine ⟨?_, ?_, ?_, ?_⟩
        · exact C14 -- o13 e3.1
        · exact ⟨fun z => by omega, fun _ => Or.inl ⟨by omega, by omega, F14 _ _ (by omega)⟩⟩ -- o14 e3.2
        · exact fun a s y => F14 a s (by omega) -- o15 e3.3
        · exact bs1 -- o16 e3.4
      · skip
        try simp (disch := omega) only [jst_eq, jst_ne, jst_ni, jI_i, jcmp_lt, jcmp_gt, w32_id, jcpy_out, Sum.elim_inl, Sum.elim_inr, jt2, jt3, jt4, jt5, jt6, jt7, jt8] at c3
        refine OK_jl ?_
        refine OK_some ?_
        try dsimp only [Sum.elim_inl, Sum.elim_inr, jt2, jt3, jt4, jt5, jt6, jt7, jt8]
        try dsimp only [Sum.elim_inl, Sum.elim_inr, jt2, jt3, jt4, jt5, jt6, jt7, jt8]
        refine ⟨?_, ?_, ?_, ?_⟩
        · (rw [jst_ni (by decide), jst_ni (by decide)]; exact C14) -- o17 e4.1
        · exact ⟨fun z => by omega, fun _ => Or.inr (Or.inl ⟨by omega, by omega, jst_eq⟩)⟩ -- o18 e4.2
        · exact fun a s y => by rw [jst_o (by omega)]; exact F14 a s (by omega) -- o19 e4.3
        · (unfold bd20; rw [jst_ni (by decide)]; exact bs1) -- o20 e4.4
theorem vX14_meet_j63 {h : AH} {E : EV} {Rf : Int → TR} {W : Int → Int → Int → VW} {L : LE} {T : TR} {s9 : Int → Int} (w : wkM h E Rf W) (v : vLE E L) (sv : vlS L s9 ∧ s3M h s9) (ak : akT h E L T) (c5 : 1 ≤ h 454 105 ∧ h 454 105 ≤ 5000) (k : 0 ≤ h 454 102 ∧ h 454 102 ≤ 2) : OK (gX14_meet_j63 h) (fun h' => (h' 454 103 = min (h 454 103) (s9 (h 454 102)) ∧ h' 454 104 = max (h 454 104) (s9 (h 454 102))) ∧ ((h 454 100 = -1 → h' 454 101 = h 454 101) ∧ (h 454 100 ≠ -1 → (h 454 101 < 0 ∧ evL W T s9 = 1 ∧ h' 454 101 = h 454 101) ∨ (h 454 101 < 0 ∧ evL W T s9 ≠ 1 ∧ h' 454 101 = h 454 105 - 1) ∨ (0 ≤ h 454 101 ∧ h' 454 101 = h 454 101))) ∧ (∀ a s, ¬ (a = 454 ∧ (s = 20 ∨ s = 101 ∨ s = 103 ∨ s = 104)) → h' a s = h a s) ∧ (bd20 h')) := by
  have S3 := sv.2
  unfold s3M at S3
  unfold gX14_meet_j63
  refine OK_if (fun c1 => ?_) (fun c1 => ?_)
  · skip
    try simp (disch := omega) only [jst_eq, jst_ne, jst_ni, jI_i, jcmp_lt, jcmp_gt, w32_id, jcpy_out, Sum.elim_inl, Sum.elim_inr, jt2, jt3, jt4, jt5, jt6, jt7, jt8] at c1
    refine OK_mono (vX14_meet_j96 (E := E) (Rf := Rf) (W := W) (L := L) (T := T) (s9 := s9) _ (by (first | assumption | omega | ((try dsimp only [jt2, jt3, jt4]); first | omega | (simp (disch := omega) only [jst_eq, jst_ne, jst_ni, jst_o, jI_i, jcpy_out, w32_id, jdiv_nn, jshr_k, jand_255] <;> first | done | omega | assumption)) | (intros; simp (disch := omega) only [jst_eq, jst_ne, jst_ni, jst_o, jI_i, jcpy_out, w32_id, jdiv_nn, *] <;> first | done | omega) | (intros; simp (disch := omega) only [jst_eq, jst_ne, jst_ni, jst_o, jI_i, jcpy_out, w32_id, jdiv_nn] at * <;> first | done | omega | assumption) | (intros; first | rfl | (exfalso; omega) | ((repeat' apply And.intro) <;> first | assumption | rfl | omega | trivial)))) (by (first | assumption | omega | ((try dsimp only [jt2, jt3, jt4]); first | omega | (simp (disch := omega) only [jst_eq, jst_ne, jst_ni, jst_o, jI_i, jcpy_out, w32_id, jdiv_nn, jshr_k, jand_255] <;> first | done | omega | assumption)) | (intros; simp (disch := omega) only [jst_eq, jst_ne, jst_ni, jst_o, jI_i, jcpy_out, w32_id, jdiv_nn, *] <;> first | done | omega) | (intros; simp (disch := omega) only [jst_eq, jst_ne, jst_ni, jst_o, jI_i, jcpy_out, w32_id, jdiv_nn] at * <;> first | done | omega | assumption) | (intros; first | rfl | (exfalso; omega) | ((repeat' apply And.intro) <;> first | assumption | rfl | omega | trivial)))) (by exact sv) (by (first | assumption | omega | ((try dsimp only [jt2, jt3, jt4]); first | omega | (simp (disch := omega) only [jst_eq, jst_ne, jst_ni, jst_o, jI_i, jcpy_out, w32_id, jdiv_nn, jshr_k, jand_255] <;> first | done | omega | assumption)) | (intros; simp (disch := omega) only [jst_eq, jst_ne, jst_ni, jst_o, jI_i, jcpy_out, w32_id, jdiv_nn, *] <;> first | done | omega) | (intros; simp (disch := omega) only [jst_eq, jst_ne, jst_ni, jst_o, jI_i, jcpy_out, w32_id, jdiv_nn] at * <;> first | done | omega | assumption) | (intros; first | rfl | (exfalso; omega) | ((repeat' apply And.intro) <;> first | assumption | rfl | omega | trivial)))) (by (first | assumption | omega | ((try dsimp only [jt2, jt3, jt4]); first | omega | (simp (disch := omega) only [jst_eq, jst_ne, jst_ni, jst_o, jI_i, jcpy_out, w32_id, jdiv_nn, jshr_k, jand_255] <;> first | done | omega | assumption)) | (intros; simp (disch := omega) only [jst_eq, jst_ne, jst_ni, jst_o, jI_i, jcpy_out, w32_id, jdiv_nn, *] <;> first | done | omega) | (intros; simp (disch := omega) only [jst_eq, jst_ne, jst_ni, jst_o, jI_i, jcpy_out, w32_id, jdiv_nn] at * <;> first | done | omega | assumption) | (intros; first | rfl | (exfalso; omega) | ((repeat' apply And.intro) <;> first | assumption | rfl | omega | trivial))))) (fun r r1 => ?_)
    try dsimp only [Sum.elim_inl, Sum.elim_inr, jt2, jt3, jt4, jt5, jt6, jt7, jt8] at r1
    obtain ⟨lg1, as1, fr1, bb1⟩ := r1
    try simp (disch := omega) only [jst_eq, jst_ne, jst_ni, jI_i, jcmp_lt, jcmp_gt, w32_id, jcpy_out, Sum.elim_inl, Sum.elim_inr, jt2, jt3, jt4, jt5, jt6, jt7, jt8] at lg1
    try simp (disch := omega) only [jst_eq, jst_ne, jst_ni, jI_i, jcmp_lt, jcmp_gt, w32_id, jcpy_out, Sum.elim_inl, Sum.elim_inr, jt2, jt3, jt4, jt5, jt6, jt7, jt8] at as1
    try simp (disch := omega) only [jst_eq, jst_ne, jst_ni, jI_i, jcmp_lt, jcmp_gt, w32_id, jcpy_out, Sum.elim_inl, Sum.elim_inr, jt2, jt3, jt4, jt5, jt6, jt7, jt8] at fr1
    try simp (disch := omega) only [jst_eq, jst_ne, jst_ni, jI_i, jcmp_lt, jcmp_gt, w32_id, jcpy_out, Sum.elim_inl, Sum.elim_inr, jt2, jt3, jt4, jt5, jt6, jt7, jt8] at bb1
    try dsimp only [Sum.elim_inl, Sum.elim_inr, jt2, jt3, jt4, jt5, jt6, jt7, jt8]
    try dsimp only [Sum.elim_inl, Sum.elim_inr, jt2, jt3, jt4, jt5, jt6, jt7, jt8]
    refine ⟨?_, ?_, ?_, ?_⟩
    · (rw [c1, ← S3.1]; exact lg1) -- o6 e1.1
    · (first | assumption | omega | ((try dsimp only [jt2, jt3, jt4]); first | omega | (simp (disch := omega) only [jst_eq, jst_ne, jst_ni, jst_o, jI_i, jcpy_out, w32_id, jdiv_nn, jshr_k, jand_255] <;> first | done | omega | assumption)) | (intros; simp (disch := omega) only [jst_eq, jst_ne, jst_ni, jst_o, jI_i, jcpy_out, w32_id, jdiv_nn, *] <;> first | done | omega) | (intros; simp (disch := omega) only [jst_eq, jst_ne, jst_ni, jst_o, jI_i, jcpy_out, w32_id, jdiv_nn] at * <;> first | done | omega | assumption) | (intros; first | rfl | (exfalso; omega) | ((repeat' apply And.intro) <;> first | assumption | rfl | omega | trivial))) -- o7 e1.2
    · (first | assumption | omega | ((try dsimp only [jt2, jt3, jt4]); first | omega | (simp (disch := omega) only [jst_eq, jst_ne, jst_ni, jst_o, jI_i, jcpy_out, w32_id, jdiv_nn, jshr_k, jand_255] <;> first | done | omega | assumption)) | (intros; simp (disch := omega) only [jst_eq, jst_ne, jst_ni, jst_o, jI_i, jcpy_out, w32_id, jdiv_nn, *] <;> first | done | omega) | (intros; simp (disch := omega) only [jst_eq, jst_ne, jst_ni, jst_o, jI_i, jcpy_out, w32_id, jdiv_nn] at * <;> first | done | omega | assumption) | (intros; first | rfl | (exfalso; omega) | ((repeat' apply And.intro) <;> first | assumption | rfl | omega | trivial))) -- o8 e1.3
    · (first | assumption | omega | ((try dsimp only [jt2, jt3, jt4]); first | omega | (simp (disch := omega) only [jst_eq, jst_ne, jst_ni, jst_o, jI_i, jcpy_out, w32_id, jdiv_nn, jshr_k, jand_255] <;> first | done | omega | assumption)) | (intros; simp (disch := omega) only [jst_eq, jst_ne, jst_ni, jst_o, jI_i, jcpy_out, w32_id, jdiv_nn, *] <;> first | done | omega) | (intros; simp (disch := omega) only [jst_eq, jst_ne, jst_ni, jst_o, jI_i, jcpy_out, w32_id, jdiv_nn] at * <;> first | done | omega | assumption) | (intros; first | rfl | (exfalso; omega) | ((repeat' apply And.intro) <;> first | assumption | rfl | omega | trivial))) -- o9 e1.4
  · skip
    try simp (disch := omega) only [jst_eq, jst_ne, jst_ni, jI_i, jcmp_lt, jcmp_gt, w32_id, jcpy_out, Sum.elim_inl, Sum.elim_inr, jt2, jt3, jt4, jt5, jt6, jt7, jt8] at c1
    refine OK_if (fun c2 => ?_) (fun c2 => ?_)
    · skip
      try simp (disch := omega) only [jst_eq, jst_ne, jst_ni, jI_i, jcmp_lt, jcmp_gt, w32_id, jcpy_out, Sum.elim_inl, Sum.elim_inr, jt2, jt3, jt4, jt5, jt6, jt7, jt8] at c2
      refine OK_mono (vX14_meet_j96 (E := E) (Rf := Rf) (W := W) (L := L) (T := T) (s9 := s9) _ (by (first | assumption | omega | ((try dsimp only [jt2, jt3, jt4]); first | omega | (simp (disch := omega) only [jst_eq, jst_ne, jst_ni, jst_o, jI_i, jcpy_out, w32_id, jdiv_nn, jshr_k, jand_255] <;> first | done | omega | assumption)) | (intros; simp (disch := omega) only [jst_eq, jst_ne, jst_ni, jst_o, jI_i, jcpy_out, w32_id, jdiv_nn, *] <;> first | done | omega) | (intros; simp (disch := omega) only [jst_eq, jst_ne, jst_ni, jst_o, jI_i, jcpy_out, w32_id, jdiv_nn] at * <;> first | done | omega | assumption) | (intros; first | rfl | (exfalso; omega) | ((repeat' apply And.intro) <;> first | assumption | rfl | omega | trivial)))) (by (first | assumption | omega | ((try dsimp only [jt2, jt3, jt4]); first | omega | (simp (disch := omega) only [jst_eq, jst_ne, jst_ni, jst_o, jI_i, jcpy_out, w32_id, jdiv_nn, jshr_k, jand_255] <;> first | done | omega | assumption)) | (intros; simp (disch := omega) only [jst_eq, jst_ne, jst_ni, jst_o, jI_i, jcpy_out, w32_id, jdiv_nn, *] <;> first | done | omega) | (intros; simp (disch := omega) only [jst_eq, jst_ne, jst_ni, jst_o, jI_i, jcpy_out, w32_id, jdiv_nn] at * <;> first | done | omega | assumption) | (intros; first | rfl | (exfalso; omega) | ((repeat' apply And.intro) <;> first | assumption | rfl | omega | trivial)))) (by exact sv) (by (first | assumption | omega | ((try dsimp only [jt2, jt3, jt4]); first | omega | (simp (disch := omega) only [jst_eq, jst_ne, jst_ni, jst_o, jI_i, jcpy_out, w32_id, jdiv_nn, jshr_k, jand_255] <;> first | done | omega | assumption)) | (intros; simp (disch := omega) only [jst_eq, jst_ne, jst_ni, jst_o, jI_i, jcpy_out, w32_id, jdiv_nn, *] <;> first | done | omega) | (intros; simp (disch := omega) only [jst_eq, jst_ne, jst_ni, jst_o, jI_i, jcpy_out, w32_id, jdiv_nn] at * <;> first | done | omega | assumption) | (intros; first | rfl | (exfalso; omega) | ((repeat' apply And.intro) <;> first | assumption | rfl | omega | trivial)))) (by (first | assumption | omega | ((try dsimp only [jt2, jt3, jt4]); first | omega | (simp (disch := omega) only [jst_eq, jst_ne, jst_ni, jst_o, jI_i, jcpy_out, w32_id, jdiv_nn, jshr_k, jand_255] <;> first | done | omega | assumption)) | (intros; simp (disch := omega) only [jst_eq, jst_ne, jst_ni, jst_o, jI_i, jcpy_out, w32_id, jdiv_nn, *] <;> first | done | omega) | (intros; simp (disch := omega) only [jst_eq, jst_ne, jst_ni, jst_o, jI_i, jcpy_out, w32_id, jdiv_nn] at * <;> first | done | omega | assumption) | (intros; first | rfl | (exfalso; omega) | ((repeat' apply And.intro) <;> first | assumption | rfl | omega | trivial))))) (fun r r2 => ?_)
      try dsimp only [Sum.elim_inl, Sum.elim_inr, jt2, jt3, jt4, jt5, jt6, jt7, jt8] at r2
      obtain ⟨lg2, as2, fr2, bb2⟩ := r2
      try simp (disch := omega) only [jst_eq, jst_ne, jst_ni, jI_i, jcmp_lt, jcmp_gt, w32_id, jcpy_out, Sum.elim_inl, Sum.elim_inr, jt2, jt3, jt4, jt5, jt6, jt7, jt8] at lg2
      try simp (disch := omega) only [jst_eq, jst_ne, jst_ni, jI_i, jcmp_lt, jcmp_gt, w32_id, jcpy_out, Sum.elim_inl, Sum.elim_inr, jt2, jt3, jt4, jt5, jt6, jt7, jt8] at as2
      try simp (disch := omega) only [jst_eq, jst_ne, jst_ni, jI_i, jcmp_lt, jcmp_gt, w32_id, jcpy_out, Sum.elim_inl, Sum.elim_inr, jt2, jt3, jt4, jt5, jt6, jt7, jt8] at fr2
      try simp (disch := omega) only [jst_eq, jst_ne, jst_ni, jI_i, jcmp_lt, jcmp_gt, w32_id, jcpy_out, Sum.elim_inl, Sum.elim_inr, jt2, jt3, jt4, jt5, jt6, jt7, jt8] at bb2
      try dsimp only [Sum.elim_inl, Sum.elim_inr, jt2, jt3, jt4, jt5, jt6, jt7, jt8]
      try dsimp only [Sum.elim_inl, Sum.elim_inr, jt2, jt3, jt4, jt5, jt6, jt7, jt8]
      refine ⟨?_, ?_, ?_, ?_⟩
      · (rw [c2, ← S3.2.1]; exact lg2) -- o15 e2.1
      · (first | assumption | omega | ((try dsimp only [jt2, jt3, jt4]); first | omega | (simp (disch := omega) only [jst_eq, jst_ne, jst_ni, jst_o, jI_i, jcpy_out, w32_id, jdiv_nn, jshr_k, jand_255] <;> first | done | omega | assumption)) | (intros; simp (disch := omega) only [jst_eq, jst_ne, jst_ni, jst_o, jI_i, jcpy_out, w32_id, jdiv_nn, *] <;> first | done | omega) | (intros; simp (disch := omega) only [jst_eq, jst_ne, jst_ni, jst_o, jI_i, jcpy_out, w32_id, jdiv_nn] at * <;> first | done | omega | assumption) | (intros; first | rfl | (exfalso; omega) | ((repeat' apply And.intro) <;> first | assumption | rfl | omega | trivial))) -- o16 e2.2
      · (first | assumption | omega | ((try dsimp only [jt2, jt3, jt4]); first | omega | (simp (disch := omega) only [jst_eq, jst_ne, jst_ni, jst_o, jI_i, jcpy_out, w32_id, jdiv_nn, jshr_k, jand_255] <;> first | done | omega | assumption)) | (intros; simp (disch := omega) only [jst_eq, jst_ne, jst_ni, jst_o, jI_i, jcpy_out, w32_id, jdiv_nn, *] <;> first | done | omega) | (intros; simp (disch := omega) only [jst_eq, jst_ne, jst_ni, jst_o, jI_i, jcpy_out, w32_id, jdiv_nn] at * <;> first | done | omega | assumption) | (intros; first | rfl | (exfalso; omega) | ((repeat' apply And.intro) <;> first | assumption | rfl | omega | trivial))) -- o17 e2.3
      · (first | assumption | omega | ((try dsimp only [jt2, jt3, jt4]); first | omega | (simp (disch := omega) only [jst_eq, jst_ne, jst_ni, jst_o, jI_i, jcpy_out, w32_id, jdiv_nn, jshr_k, jand_255] <;> first | done | omega | assumption)) | (intros; simp (disch := omega) only [jst_eq, jst_ne, jst_ni, jst_o, jI_i, jcpy_out, w32_id, jdiv_nn, *] <;> first | done | omega) | (intros; simp (disch := omega) only [jst_eq, jst_ne, jst_ni, jst_o, jI_i, jcpy_out, w32_id, jdiv_nn] at * <;> first | done | omega | assumption) | (intros; first | rfl | (exfalso; omega) | ((repeat' apply And.intro) <;> first | assumption | rfl | omega | trivial))) -- o18 e2.4
    · skip
      try simp (disch := omega) only [jst_eq, jst_ne, jst_ni, jI_i, jcmp_lt, jcmp_gt, w32_id, jcpy_out, Sum.elim_inl, Sum.elim_inr, jt2, jt3, jt4, jt5, jt6, jt7, jt8] at c2
      refine OK_mono (vX14_meet_j96 (E := E) (Rf := Rf) (W := W) (L := L) (T := T) (s9 := s9) _ (by (first | assumption | omega | ((try dsimp only [jt2, jt3, jt4]); first | omega | (simp (disch := omega) only [jst_eq, jst_ne, jst_ni, jst_o, jI_i, jcpy_out, w32_id, jdiv_nn, jshr_k, jand_255] <;> first | done | omega | assumption)) | (intros; simp (disch := omega) only [jst_eq, jst_ne, jst_ni, jst_o, jI_i, jcpy_out, w32_id, jdiv_nn, *] <;> first | done | omega) | (intros; simp (disch := omega) only [jst_eq, jst_ne, jst_ni, jst_o, jI_i, jcpy_out, w32_id, jdiv_nn] at * <;> first | done | omega | assumption) | (intros; first | rfl | (exfalso; omega) | ((repeat' apply And.intro) <;> first | assumption | rfl | omega | trivial)))) (by (first | assumption | omega | ((try dsimp only [jt2, jt3, jt4]); first | omega | (simp (disch := omega) only [jst_eq, jst_ne, jst_ni, jst_o, jI_i, jcpy_out, w32_id, jdiv_nn, jshr_k, jand_255] <;> first | done | omega | assumption)) | (intros; simp (disch := omega) only [jst_eq, jst_ne, jst_ni, jst_o, jI_i, jcpy_out, w32_id, jdiv_nn, *] <;> first | done | omega) | (intros; simp (disch := omega) only [jst_eq, jst_ne, jst_ni, jst_o, jI_i, jcpy_out, w32_id, jdiv_nn] at * <;> first | done | omega | assumption) | (intros; first | rfl | (exfalso; omega) | ((repeat' apply And.intro) <;> first | assumption | rfl | omega | trivial)))) (by exact sv) (by (first | assumption | omega | ((try dsimp only [jt2, jt3, jt4]); first | omega | (simp (disch := omega) only [jst_eq, jst_ne, jst_ni, jst_o, jI_i, jcpy_out, w32_id, jdiv_nn, jshr_k, jand_255] <;> first | done | omega | assumption)) | (intros; simp (disch := omega) only [jst_eq, jst_ne, jst_ni, jst_o, jI_i, jcpy_out, w32_id, jdiv_nn, *] <;> first | done | omega) | (intros; simp (disch := omega) only [jst_eq, jst_ne, jst_ni, jst_o, jI_i, jcpy_out, w32_id, jdiv_nn] at * <;> first | done | omega | assumption) | (intros; first | rfl | (exfalso; omega) | ((repeat' apply And.intro) <;> first | assumption | rfl | omega | trivial)))) (by (first | assumption | omega | ((try dsimp only [jt2, jt3, jt4]); first | omega | (simp (disch := omega) only [jst_eq, jst_ne, jst_ni, jst_o, jI_i, jcpy_out, w32_id, jdiv_nn, jshr_k, jand_255] <;> first | done | omega | assumption)) | (intros; simp (disch := omega) only [jst_eq, jst_ne, jst_ni, jst_o, jI_i, jcpy_out, w32_id, jdiv_nn, *] <;> first | done | omega) | (intros; simp (disch := omega) only [jst_eq, jst_ne, jst_ni, jst_o, jI_i, jcpy_out, w32_id, jdiv_nn] at * <;> first | done | omega | assumption) | (intros; first | rfl | (exfalso; omega) | ((repeat' apply And.intro) <;> first | assumption | rfl | omega | trivial))))) (fun r r3 => ?_)
      try dsimp only [Sum.elim_inl, Sum.elim_inr, jt2, jt3, jt4, jt5, jt6, jt7, jt8] at r3
      obtain ⟨lg3, as3, fr3, bb3⟩ := r3
      try simp (disch := omega) only [jst_eq, jst_ne, jst_ni, jI_i, jcmp_lt, jcmp_gt, w32_id, jcpy_out, Sum.elim_inl, Sum.elim_inr, jt2, jt3, jt4, jt5, jt6, jt7, jt8] at lg3
      try simp (disch := omega) only [jst_eq, jst_ne, jst_ni, jI_i, jcmp_lt, jcmp_gt, w32_id, jcpy_out, Sum.elim_inl, Sum.elim_inr, jt2, jt3, jt4, jt5, jt6, jt7, jt8] at as3
      try simp (disch := omega) only [jst_eq, jst_ne, jst_ni, jI_i, jcmp_lt, jcmp_gt, w32_id, jcpy_out, Sum.elim_inl, Sum.elim_inr, jt2, jt3, jt4, jt5, jt6, jt7, jt8] at fr3
      try simp (disch := omega) only [jst_eq, jst_ne, jst_ni, jI_i, jcmp_lt, jcmp_gt, w32_id, jcpy_out, Sum.elim_inl, Sum.elim_inr, jt2, jt3, jt4, jt5, jt6, jt7, jt8] at bb3
      try dsimp only [Sum.elim_inl, Sum.elim_inr, jt2, jt3, jt4, jt5, jt6, jt7, jt8]
      try dsimp only [Sum.elim_inl, Sum.elim_inr, jt2, jt3, jt4, jt5, jt6, jt7, jt8]
      refine ⟨?_, ?_, ?_, ?_⟩
      · (rw [show h 454 102 = 2 by omega, ← S3.2.2]; exact lg3) -- o24 e3.1
      · (first | assumption | omega | ((try dsimp only [jt2, jt3, jt4]); first | omega | (simp (disch := omega) only [jst_eq, jst_ne, jst_ni, jst_o, jI_i, jcpy_out, w32_id, jdiv_nn, jshr_k, jand_255] <;> first | done | omega | assumption)) | (intros; simp (disch := omega) only [jst_eq, jst_ne, jst_ni, jst_o, jI_i, jcpy_out, w32_id, jdiv_nn, *] <;> first | done | omega) | (intros; simp (disch := omega) only [jst_eq, jst_ne, jst_ni, jst_o, jI_i, jcpy_out, w32_id, jdiv_nn] at * <;> first | done | omega | assumption) | (intros; first | rfl | (exfalso; omega) | ((repeat' apply And.intro) <;> first | assumption | rfl | omega | trivial))) -- o25 e3.2
      · (first | assumption | omega | ((try dsimp only [jt2, jt3, jt4]); first | omega | (simp (disch := omega) only [jst_eq, jst_ne, jst_ni, jst_o, jI_i, jcpy_out, w32_id, jdiv_nn, jshr_k, jand_255] <;> first | done | omega | assumption)) | (intros; simp (disch := omega) only [jst_eq, jst_ne, jst_ni, jst_o, jI_i, jcpy_out, w32_id, jdiv_nn, *] <;> first | done | omega) | (intros; simp (disch := omega) only [jst_eq, jst_ne, jst_ni, jst_o, jI_i, jcpy_out, w32_id, jdiv_nn] at * <;> first | done | omega | assumption) | (intros; first | rfl | (exfalso; omega) | ((repeat' apply And.intro) <;> first | assumption | rfl | omega | trivial))) -- o26 e3.3
      · (first | assumption | omega | ((try dsimp only [jt2, jt3, jt4]); first | omega | (simp (disch := omega) only [jst_eq, jst_ne, jst_ni, jst_o, jI_i, jcpy_out, w32_id, jdiv_nn, jshr_k, jand_255] <;> first | done | omega | assumption)) | (intros; simp (disch := omega) only [jst_eq, jst_ne, jst_ni, jst_o, jI_i, jcpy_out, w32_id, jdiv_nn, *] <;> first | done | omega) | (intros; simp (disch := omega) only [jst_eq, jst_ne, jst_ni, jst_o, jI_i, jcpy_out, w32_id, jdiv_nn] at * <;> first | done | omega | assumption) | (intros; first | rfl | (exfalso; omega) | ((repeat' apply And.intro) <;> first | assumption | rfl | omega | trivial))) -- o27 e3.4
theorem vX14_meet {h : AH} {E : EV} {Rf : Int → TR} {W : Int → Int → Int → VW} {L : LE} {T : TR} {s9 : Int → Int} {l : List (Int → Int)} {k : Int} (w : wkM h E Rf W) (v : vLE E L) (sv : (vlS L s9 ∧ ∀ k, ¬ (0 ≤ k ∧ k < L.2.1.1) → s9 k = 0) ∧ s3M h s9) (ak : akT h E L T) (cc : 0 ≤ h 454 105 ∧ h 454 105 ≤ 4998) (kk : 0 ≤ k ∧ k ≤ 2) (se : snM h L k l) (ll : l.length ≤ 2000000) : OK (gX14_meet h) (fun h' => (snM h' L k (s9 :: l)) ∧ (h' 454 105 = h 454 105 + 1) ∧ ((h 454 100 = -1 → h' 454 101 = h 454 101) ∧ (h 454 100 ≠ -1 → (h 454 101 < 0 ∧ evL W T s9 = 1 ∧ h' 454 101 = h 454 101) ∨ (h 454 101 < 0 ∧ evL W T s9 ≠ 1 ∧ h' 454 101 = h 454 105) ∨ (0 ≤ h 454 101 ∧ h' 454 101 = h 454 101))) ∧ (∀ a s, ¬ (a = 454 ∧ (s = 20 ∨ s = 101 ∨ (103 ≤ s ∧ s ≤ 106))) → ¬ (a = 816 ∧ 0 ≤ s) → h' a s = h a s) ∧ (bd20 h')) := by
  have S15 := vlS_15 v sv.1.1 sv.1.2
  unfold b15 at S15
  have S3 := sv.2
  unfold s3M at S3
  obtain ⟨se1, se2, se3, se4, se5, se6⟩ := se
  have CB := cntR_b l
  unfold gX14_meet
  refine OK_jl ?_
  rw [w32_id (x := h 454 105 + 1) (by omega) (by omega)]
  have F1 : ∀ a s, ¬ (a = 454 ∧ s = 105) → jst h 454 105 (h 454 105 + 1) a s = h a s := fun a s y => jst_o y
  have C1 : jst h 454 105 (h 454 105 + 1) 454 105 = h 454 105 + 1 := jst_eq
  generalize jst h 454 105 (h 454 105 + 1) = g1 at *
  have KX : jor (jor (jshl (g1 454 93) 8) (jshl (g1 454 94) 4)) (g1 454 95) = kyS s9 := by { rw [F1 _ _ (by omega), F1 _ _ (by omega), F1 _ _ (by omega), S3.1, S3.2.1, S3.2.2]; exact jor_k S15.1 S15.2.1 S15.2.2 }
  have KB : 0 ≤ kyS s9 ∧ kyS s9 < 4096 := by { unfold kyS; omega }
  rw [KX]
  refine OK_jlx (fun x2 ex2 => ?_)
  try simp (disch := omega) only [jst_eq, jst_ne, jst_ni, jI_i, jcmp_lt, jcmp_gt, w32_id, jcpy_out, Sum.elim_inl, Sum.elim_inr, jt2, jt3, jt4, jt5, jt6, jt7, jt8] at ex2
  rw [F1 454 99 (by omega), F1 816 x2 (by omega)]
  have IN : h 816 x2 = h 454 99 ↔ s9 ∈ l := by { rw [ex2]; exact ⟨fun z => by (obtain ⟨s, s1, s2⟩ := (se2 _ KB.1 KB.2).2 z; have q := se1 s s1; have e9 := kyS_i v q.1 sv.1 s2; rw [← e9]; exact s1), fun z => (se1 s9 z).2⟩ }
  have SC : cntR (s9 :: l) = cif (s9 ∈ l) (cntR l) (cntR l + 1) := rfl
  have WW : wkM g1 E Rf W := wkM_f w (by { unfold bd20; rw [F1 _ _ (by omega)]; exact w.2.2 }) (fun a s y => F1 a s (by omega))
  have AK1 : akT g1 E L T := by { unfold akT; rw [F1 454 100 (by omega)]; rcases ak with z | z; { exact Or.inl z }; { exact Or.inr ⟨z.1, atM_f z.2.1 (fun a s a0 a1 => F1 a s (by omega)), z.2.2⟩ } }
  refine OK_jg (by (first | assumption | omega | ((try dsimp only [jt2, jt3, jt4]); first | omega | (simp (disch := omega) only [jst_eq, jst_ne, jst_ni, jst_o, jI_i, jcpy_out, w32_id, jdiv_nn, jshr_k, jand_255] <;> first | done | omega | assumption)) | (intros; simp (disch := omega) only [jst_eq, jst_ne, jst_ni, jst_o, jI_i, jcpy_out, w32_id, jdiv_nn, *] <;> first | done | omega) | (intros; simp (disch := omega) only [jst_eq, jst_ne, jst_ni, jst_o, jI_i, jcpy_out, w32_id, jdiv_nn] at * <;> first | done | omega | assumption) | (intros; first | rfl | (exfalso; omega) | ((repeat' apply And.intro) <;> first | assumption | rfl | omega | trivial)))) ?_ -- o1
  refine OK_if (fun c1 => ?_) (fun c1 => ?_)
  · skip
    try simp (disch := omega) only [jst_eq, jst_ne, jst_ni, jI_i, jcmp_lt, jcmp_gt, w32_id, jcpy_out, Sum.elim_inl, Sum.elim_inr, jt2, jt3, jt4, jt5, jt6, jt7, jt8] at c1
    refine OK_mono (vX14_meet_j63 (E := E) (Rf := Rf) (W := W) (L := L) (T := T) (s9 := s9) (by exact WW) (by exact v) (by (unfold s3M; rw [F1 _ _ (by omega), F1 _ _ (by omega), F1 _ _ (by omega)]; exact ⟨sv.1.1, sv.2⟩)) (by exact AK1) (by omega) (by (rw [F1 _ _ (by omega)]; omega))) (fun r r1 => ?_)
    try dsimp only [Sum.elim_inl, Sum.elim_inr, jt2, jt3, jt4, jt5, jt6, jt7, jt8] at r1
    obtain ⟨lg1, as1, fr1, bb1⟩ := r1
    try simp (disch := omega) only [jst_eq, jst_ne, jst_ni, jI_i, jcmp_lt, jcmp_gt, w32_id, jcpy_out, Sum.elim_inl, Sum.elim_inr, jt2, jt3, jt4, jt5, jt6, jt7, jt8] at lg1
    try simp (disch := omega) only [jst_eq, jst_ne, jst_ni, jI_i, jcmp_lt, jcmp_gt, w32_id, jcpy_out, Sum.elim_inl, Sum.elim_inr, jt2, jt3, jt4, jt5, jt6, jt7, jt8] at as1
    try simp (disch := omega) only [jst_eq, jst_ne, jst_ni, jI_i, jcmp_lt, jcmp_gt, w32_id, jcpy_out, Sum.elim_inl, Sum.elim_inr, jt2, jt3, jt4, jt5, jt6, jt7, jt8] at fr1
    try simp (disch := omega) only [jst_eq, jst_ne, jst_ni, jI_i, jcmp_lt, jcmp_gt, w32_id, jcpy_out, Sum.elim_inl, Sum.elim_inr, jt2, jt3, jt4, jt5, jt6, jt7, jt8] at bb1
    try dsimp only [Sum.elim_inl, Sum.elim_inr, jt2, jt3, jt4, jt5, jt6, jt7, jt8]
    try dsimp only [Sum.elim_inl, Sum.elim_inr, jt2, jt3, jt4, jt5, jt6, jt7, jt8]
    refine ⟨?_, ?_, ?_, ?_, ?_⟩
    · (have IM := IN.mp (by omega); refine ⟨fun s m => ?_, fun p p0 p1 => ?_, ?_, ?_, ?_, ?_⟩; { rw [fr1 454 99 (by omega), F1 454 99 (by omega), fr1 816 _ (by omega), F1 816 _ (by omega)]; rcases List.mem_cons.mp m with y | y; { rw [y]; exact se1 s9 IM }; { exact se1 s y } }; { rw [fr1 454 99 (by omega), F1 454 99 (by omega), fr1 816 _ (by omega), F1 816 _ (by omega)]; have q := se2 p p0 p1; exact ⟨q.1, fun z => by obtain ⟨s, s1, s2⟩ := q.2 z; exact ⟨s, List.mem_cons_of_mem _ s1, s2⟩⟩ }; { rw [fr1 _ _ (by omega), F1 _ _ (by omega), SC, cif_y IM]; exact se3 }; { rw [fr1 _ _ (by omega), F1 _ _ (by omega)]; exact se4 }; { rw [lg1.1, F1 454 103 (by omega), F1 454 102 (by omega), se4, se5]; rfl }; { rw [lg1.2, F1 454 104 (by omega), F1 454 102 (by omega), se4, se6]; rfl }) -- o8 e1.1
    · (rw [fr1 _ _ (by omega)]; exact C1) -- o9 e1.2
    · (have q := as1; rw [F1 454 100 (by omega), F1 454 101 (by omega), C1, show h 454 105 + 1 - 1 = h 454 105 by omega] at q; exact q) -- o10 e1.3
    · exact fun a s y1 y2 => by rw [fr1 a s (by omega)]; exact F1 a s (by omega) -- o11 e1.4
    · (first | assumption | omega | ((try dsimp only [jt2, jt3, jt4]); first | omega | (simp (disch := omega) only [jst_eq, jst_ne, jst_ni, jst_o, jI_i, jcpy_out, w32_id, jdiv_nn, jshr_k, jand_255] <;> first | done | omega | assumption)) | (intros; simp (disch := omega) only [jst_eq, jst_ne, jst_ni, jst_o, jI_i, jcpy_out, w32_id, jdiv_nn, *] <;> first | done | omega) | (intros; simp (disch := omega) only [jst_eq, jst_ne, jst_ni, jst_o, jI_i, jcpy_out, w32_id, jdiv_nn] at * <;> first | done | omega | assumption) | (intros; first | rfl | (exfalso; omega) | ((repeat' apply And.intro) <;> first | assumption | rfl | omega | trivial))) -- o12 e1.5
  · skip
    try simp (disch := omega) only [jst_eq, jst_ne, jst_ni, jI_i, jcmp_lt, jcmp_gt, w32_id, jcpy_out, Sum.elim_inl, Sum.elim_inr, jt2, jt3, jt4, jt5, jt6, jt7, jt8] at c1
    refine OK_jl ?_
    have J4 : jst g1 816 x2 (h 454 99) 454 106 = cntR l := by { rw [jst_ne (by decide), F1 _ _ (by omega)]; exact se3 }
    rw [J4, w32_id (x := cntR l + 1) (by omega) (by omega)]
    refine OK_jl ?_
    have F5 : ∀ a s, ¬ (a = 454 ∧ (s = 105 ∨ s = 106)) → ¬ (a = 816 ∧ s = x2) → jst (jst g1 816 x2 (h 454 99)) 454 106 (cntR l + 1) a s = h a s := fun a s y1 y2 => by { rw [jst_o (by omega), jst_o y2]; exact F1 a s (by omega) }
    have C5 : jst (jst g1 816 x2 (h 454 99)) 454 106 (cntR l + 1) 454 106 = cntR l + 1 ∧ jst (jst g1 816 x2 (h 454 99)) 454 106 (cntR l + 1) 816 x2 = h 454 99 ∧ jst (jst g1 816 x2 (h 454 99)) 454 106 (cntR l + 1) 454 105 = h 454 105 + 1 := ⟨jst_eq, by { rw [jst_ne (by decide), jst_eq] }, by { rw [jst_ni (by decide), jst_ne (by decide)]; exact C1 }⟩
    generalize jst (jst g1 816 x2 (h 454 99)) 454 106 (cntR l + 1) = g5 at *
    refine OK_mono (vX14_meet_j63 (E := E) (Rf := Rf) (W := W) (L := L) (T := T) (s9 := s9) (by exact wkM_f w (by unfold bd20; rw [F5 _ _ (by omega) (by omega)]; exact w.2.2) (fun a s y => F5 a s (by omega) (by omega))) (by exact v) (by (unfold s3M; rw [F5 _ _ (by omega) (by omega), F5 _ _ (by omega) (by omega), F5 _ _ (by omega) (by omega)]; exact ⟨sv.1.1, sv.2⟩)) (by (unfold akT; rw [F5 454 100 (by omega) (by omega)]; rcases ak with z | z; { exact Or.inl z }; { exact Or.inr ⟨z.1, atM_f z.2.1 (fun a s a0 a1 => F5 a s (by omega) (by omega)), z.2.2⟩ })) (by omega) (by (rw [F5 _ _ (by omega) (by omega)]; omega))) (fun r r2 => ?_)
    try dsimp only [Sum.elim_inl, Sum.elim_inr, jt2, jt3, jt4, jt5, jt6, jt7, jt8] at r2
    obtain ⟨lg2, as2, fr2, bb2⟩ := r2
    try simp (disch := omega) only [jst_eq, jst_ne, jst_ni, jI_i, jcmp_lt, jcmp_gt, w32_id, jcpy_out, Sum.elim_inl, Sum.elim_inr, jt2, jt3, jt4, jt5, jt6, jt7, jt8] at lg2
    try simp (disch := omega) only [jst_eq, jst_ne, jst_ni, jI_i, jcmp_lt, jcmp_gt, w32_id, jcpy_out, Sum.elim_inl, Sum.elim_inr, jt2, jt3, jt4, jt5, jt6, jt7, jt8] at as2
    try simp (disch := omega) only [jst_eq, jst_ne, jst_ni, jI_i, jcmp_lt, jcmp_gt, w32_id, jcpy_out, Sum.elim_inl, Sum.elim_inr, jt2, jt3, jt4, jt5, jt6, jt7, jt8] at fr2
    try simp (disch := omega) only [jst_eq, jst_ne, jst_ni, jI_i, jcmp_lt, jcmp_gt, w32_id, jcpy_out, Sum.elim_inl, Sum.elim_inr, jt2, jt3, jt4, jt5, jt6, jt7, jt8] at bb2
    try dsimp only [Sum.elim_inl, Sum.elim_inr, jt2, jt3, jt4, jt5, jt6, jt7, jt8]
    try dsimp only [Sum.elim_inl, Sum.elim_inr, jt2, jt3, jt4, jt5, jt6, jt7, jt8]
    refine ⟨?_, ?_, ?_, ?_, ?_⟩
    · (have IM : ¬ s9 ∈ l := (fun z => by have := IN.mpr z; omega); refine ⟨fun s m => ?_, fun p p0 p1 => ?_, ?_, ?_, ?_, ?_⟩; { rw [fr2 454 99 (by omega), F5 454 99 (by omega) (by omega), fr2 816 _ (by omega)]; rcases List.mem_cons.mp m with y | y; { rw [y, ← ex2]; exact ⟨sv.1, C5.2.1⟩ }; { have q := se1 s y; refine ⟨q.1, ?_⟩; by_cases z : kyS s = x2; { rw [z]; exact C5.2.1 }; { rw [F5 _ _ (by omega) (by omega)]; exact q.2 } } }; { rw [fr2 454 99 (by omega), F5 454 99 (by omega) (by omega), fr2 816 _ (by omega)]; by_cases z : p = x2; { rw [z, C5.2.1]; exact ⟨Int.le_refl _, fun _ => ⟨s9, List.mem_cons_self, ex2.symm⟩⟩ }; { rw [F5 _ _ (by omega) (by omega)]; have q := se2 p p0 p1; exact ⟨q.1, fun z => by obtain ⟨s, s1, s2⟩ := q.2 z; exact ⟨s, List.mem_cons_of_mem _ s1, s2⟩⟩ } }; { rw [fr2 _ _ (by omega), C5.1, SC, cif_n IM] }; { rw [fr2 _ _ (by omega), F5 _ _ (by omega) (by omega)]; exact se4 }; { rw [lg2.1, F5 454 103 (by omega) (by omega), F5 454 102 (by omega) (by omega), se4, se5]; rfl }; { rw [lg2.2, F5 454 104 (by omega) (by omega), F5 454 102 (by omega) (by omega), se4, se6]; rfl }) -- o19 e2.1
    · (rw [fr2 _ _ (by omega)]; exact C5.2.2) -- o20 e2.2
    · (have q := as2; rw [F5 454 100 (by omega) (by omega), F5 454 101 (by omega) (by omega), C5.2.2, show h 454 105 + 1 - 1 = h 454 105 by omega] at q; exact q) -- o21 e2.3
    · exact fun a s y1 y2 => by rw [fr2 a s (by omega)]; exact F5 a s (by omega) (by omega) -- o22 e2.4
    · (first | assumption | omega | ((try dsimp only [jt2, jt3, jt4]); first | omega | (simp (disch := omega) only [jst_eq, jst_ne, jst_ni, jst_o, jI_i, jcpy_out, w32_id, jdiv_nn, jshr_k, jand_255] <;> first | done | omega | assumption)) | (intros; simp (disch := omega) only [jst_eq, jst_ne, jst_ni, jst_o, jI_i, jcpy_out, w32_id, jdiv_nn, *] <;> first | done | omega) | (intros; simp (disch := omega) only [jst_eq, jst_ne, jst_ni, jst_o, jI_i, jcpy_out, w32_id, jdiv_nn] at * <;> first | done | omega | assumption) | (intros; first | rfl | (exfalso; omega) | ((repeat' apply And.intro) <;> first | assumption | rfl | omega | trivial))) -- o23 e2.5

