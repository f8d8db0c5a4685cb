/-! m: a run, whole -/
/-- marks of a run's states: m -/
def mkM (h : AH) (W : Int → Int → Int → VW) (L : LE) (i : Int) (j : Nat) : Prop := (∀ r, r < j → h 815 (kyS (trS W L i r)) = h 454 97) ∧ ∀ p, 0 ≤ p → p < 4096 → h 815 p ≤ h 454 97 ∧ (h 815 p = h 454 97 → ∃ r, r < j ∧ kyS (trS W L i r) = p)
theorem mkM_f {h h' : AH} {E : EV} {W : Int → Int → Int → VW} {L : LE} {i : Int} {j : Nat} (v : vLE E L) (vl : ∀ r, r < j → vlS L (trS W L i r)) (c : mkM h W L i j) (g : ∀ a s, (a = 454 ∧ s = 97) ∨ (a = 815 ∧ 0 ≤ s) → h' a s = h a s) : mkM h' W L i j := by
  have e := g 454 97 (by omega)
  refine ⟨fun r l => ?_, fun p p0 p1 => by rw [e, g 815 p (by omega)]; exact c.2 p p0 p1⟩
  have b := vlS_15 v (vl r l) (fun k y => trS_z r y)
  unfold b15 at b
  rw [e, g _ _ (Or.inr ⟨rfl, by unfold kyS; omega⟩)]
  exact c.1 r l
/-- what is kept of meetings: m -/
def mdM (h : AH) (W : Int → Int → Int → VW) (L : LE) (H : List (Int → Int)) (T : TR) (i k : Int) (j : Nat) : Prop := snM h L k (mtL W L i j ++ H) ∧ (h 454 100 ≠ -1 → NF W L T i j (h 454 101))
theorem mdM_f {h h' : AH} {E : EV} {W : Int → Int → Int → VW} {L : LE} {H : List (Int → Int)} {T : TR} {i k : Int} {j : Nat} (v : vLE E L) (c : mdM h W L H T i k j) (g : ∀ a s, (a = 454 ∧ (s = 99 ∨ s = 100 ∨ s = 101 ∨ s = 102 ∨ s = 103 ∨ s = 104 ∨ s = 106)) ∨ (a = 816 ∧ 0 ≤ s) → h' a s = h a s) : mdM h' W L H T i k j := ⟨snM_f ⟨E, v⟩ c.1 (fun a s y => g a s (by omega)), by rw [g _ _ (by omega), g _ _ (by omega)]; exact c.2⟩
/-- how far a run is: m -/
def liM (h : AH) (W : Int → Int → Int → VW) (L : LE) (H : List (Int → Int)) (T : TR) (i k a3 : Int) : Prop := ∃ j : Nat, psI W L i j ∧ h 454 105 = j ∧ mkM h W L i j ∧ mdM h W L H T i k j ∧ ((a3 = 1 ∧ gdS L (trS W L i j) ∧ s3M h (trS W L i j)) ∨ (a3 = 0 ∧ ¬ gdS L (trS W L i j)))
theorem akT_f {h h' : AH} {E : EV} {L : LE} {T : TR} (a : akT h E L T) (g : ∀ a s, (a = 454 ∧ s = 100) ∨ (460 ≤ a ∧ a ≤ 465) → h' a s = h a s) : akT h' E L T := by
  unfold akT
  rw [g 454 100 (by omega)]
  rcases a with z | z
  · exact Or.inl z
  · exact Or.inr ⟨z.1, atM_f z.2.1 (fun a s a0 a1 => g a s (by omega)), z.2.2⟩
theorem vX14_play_l77 (i2 : Int) (a30 : Int) {h0 : AH} {E : EV} {Rf : Int → TR} {W : Int → Int → Int → VW} {L : LE} {H : List (Int → Int)} {T : TR} {i k : Int} (rn : rnM h0 E Rf W L) (hi : 0 ≤ i) (hx : i2 = h0 454 92) (ak : akT h0 E L T) (kk : 0 ≤ k ∧ k ≤ 2) (hl : H.length ≤ 1990000) (li : liM h0 W L H T i k a30) : OK (gX14_play_l77 i2 a30 h0) (Sum.elim (fun h' => (∃ j : Nat, psI W L i j ∧ gdS L (trS W L i j) ∧ (∃ r, r < j ∧ trS W L i r = trS W L i j) ∧ h' 454 105 = j ∧ mkM h' W L i j ∧ mdM h' W L H T i k j) ∧ ((∀ a s, ¬ (a = 454 ∧ (s = 20 ∨ (93 ≤ s ∧ s ≤ 95) ∨ s = 101 ∨ (103 ≤ s ∧ s ≤ 106))) → ¬ ((a = 815 ∨ a = 816) ∧ 0 ≤ s) → h' a s = h0 a s) ∧ bd20 h')) (Sum.elim (fun h' => (∃ j : Nat, psI W L i j ∧ enI W L i j 2 (j + 1) (-1) ∧ h' 454 105 = j + 1 ∧ mkM h' W L i (j + 1) ∧ mdM h' W L H T i k (j + 1)) ∧ ((∀ a s, ¬ (a = 454 ∧ (s = 20 ∨ (93 ≤ s ∧ s ≤ 95) ∨ s = 101 ∨ (103 ≤ s ∧ s ≤ 106))) → ¬ ((a = 815 ∨ a = 816) ∧ 0 ≤ s) → h' a s = h0 a s) ∧ bd20 h')) (Sum.elim (fun h' => (∃ j : Nat, psI W L i j ∧ gdS L (trS W L i j) ∧ (∀ r, r < j → trS W L i r ≠ trS W L i j) ∧ cdS W L (trS W L i j) = 0 ∧ h' 454 105 = j + 1 ∧ mkM h' W L i (j + 1) ∧ mdM h' W L H T i k (j + 1) ∧ s3M h' (trS W L i j) ∧ vlS L (trS W L i j)) ∧ ((∀ a s, ¬ (a = 454 ∧ (s = 20 ∨ (93 ≤ s ∧ s ≤ 95) ∨ s = 101 ∨ (103 ≤ s ∧ s ≤ 106))) → ¬ ((a = 815 ∨ a = 816) ∧ 0 ≤ s) → h' a s = h0 a s) ∧ bd20 h')) (fun h' => (∃ j : Nat, psI W L i j ∧ enI W L i j 2 j (-1) ∧ h' 454 105 = j ∧ mkM h' W L i j ∧ mdM h' W L H T i k j) ∧ ((∀ a s, ¬ (a = 454 ∧ (s = 20 ∨ (93 ≤ s ∧ s ≤ 95) ∨ s = 101 ∨ (103 ≤ s ∧ s ≤ 106))) → ¬ ((a = 815 ∨ a = 816) ∧ 0 ≤ s) → h' a s = h0 a s) ∧ bd20 h'))))) := by
  have v := rn.2.2
  have n3 := v.2.1
  obtain ⟨ac, wt⟩ := rnM_a rn
  unfold gX14_play_l77
  refine OK_jit (I := (fun (s : Int × AH) => jt2 s fun a3 h => (liM h W L H T i k a3) ∧ (∀ a s, ¬ (a = 454 ∧ (s = 20 ∨ (93 ≤ s ∧ s ≤ 95) ∨ s = 101 ∨ (103 ≤ s ∧ s ≤ 106))) → ¬ ((a = 815 ∨ a = 816) ∧ 0 ≤ s) → h a s = h0 a s) ∧ (bd20 h))) (m := (fun (s : Int × AH) => jt2 s fun a3 h => (4098 - h 454 105).toNat)) ?_ ?_
  · intro s hs
    obtain ⟨a3, h⟩ := s
    dsimp only [Sum.elim_inl, Sum.elim_inr, jt2, jt3, jt4, jt5, jt6, jt7, jt8] at hs
    obtain ⟨q1, fr, bb⟩ := hs
    unfold gX14_play_b77
    refine OK_jt2 ?_
    have RN2 : rnM h E Rf W L := rnM_f rn bb (fun a s y1 y2 => fr a s (by omega) y2)
    have LO := RN2.2.1
    have LX := LO.1
    have X2 : i2 = h 454 92 := by rw [fr 454 92 (by omega) (by omega)]; exact hx
    obtain ⟨j, j1, j2, j3, j4, j5⟩ := q1
    refine OK_if (fun c1 => ?_) (fun c1 => ?_)
    · skip
      try simp (disch := omega) only [jst_eq, jst_ne, jst_ni, jI_i, jcmp_lt, jcmp_gt, w32_id, jcpy_out, Sum.elim_inl, Sum.elim_inr, jt2, jt3, jt4, jt5, jt6, jt7, jt8] at c1
      refine OK_ir ?_
      try dsimp only [Sum.elim_inl, Sum.elim_inr, jt2, jt3, jt4, jt5, jt6, jt7, jt8]
      refine ⟨?_, ?_⟩
      · (have z := j5.resolve_left (fun z => by omega); exact ⟨j, j1, Or.inl ⟨z.2, rfl, rfl, rfl⟩, j2, j3, j4⟩) -- o1 e1.1
      · exact ⟨fr, bb⟩ -- o2 e1.2
    · skip
      try simp (disch := omega) only [jst_eq, jst_ne, jst_ni, jI_i, jcmp_lt, jcmp_gt, w32_id, jcpy_out, Sum.elim_inl, Sum.elim_inr, jt2, jt3, jt4, jt5, jt6, jt7, jt8] at c1
      have J5 := j5.resolve_right (fun z => c1 z.1)
      have VJ := psI_v2 ac wt v hi j1 J5.2.1
      have ZJ : ∀ k, ¬ (0 ≤ k ∧ k < L.2.1.1) → trS W L i j k = 0 := fun k y => trS_z j y
      have S15 := vlS_15 v VJ ZJ
      unfold b15 at S15
      have S3 := J5.2.2
      have VL := psI_v ac wt v hi j1
      unfold s3M at S3
      have KX : jor (jor (jshl (h 454 93) 8) (jshl (h 454 94) 4)) (h 454 95) = kyS (trS W L i j) := by { rw [S3.1, S3.2.1, S3.2.2]; exact jor_k S15.1 S15.2.1 S15.2.2 }
      have KB : 0 ≤ kyS (trS W L i j) ∧ kyS (trS W L i j) < 4096 := by { unfold kyS; omega }
      rw [KX]
      refine OK_jlx (fun x30 ex30 => ?_)
      try simp (disch := omega) only [jst_eq, jst_ne, jst_ni, jI_i, jcmp_lt, jcmp_gt, w32_id, jcpy_out, Sum.elim_inl, Sum.elim_inr, jt2, jt3, jt4, jt5, jt6, jt7, jt8] at ex30
      refine OK_jg (by (first | assumption | omega | ((try dsimp only [jt2, jt3, jt4]); first | omega | (simp (disch := omega) only [jst_eq, jst_ne, jst_ni, jst_o, jI_i, jcpy_out, w32_id, jdiv_nn, jshr_k, jand_255] <;> first | done | omega | assumption)) | (intros; simp (disch := omega) only [jst_eq, jst_ne, jst_ni, jst_o, jI_i, jcpy_out, w32_id, jdiv_nn, *] <;> first | done | omega) | (intros; simp (disch := omega) only [jst_eq, jst_ne, jst_ni, jst_o, jI_i, jcpy_out, w32_id, jdiv_nn] at * <;> first | done | omega | assumption) | (intros; first | rfl | (exfalso; omega) | ((repeat' apply And.intro) <;> first | assumption | rfl | omega | trivial)))) ?_ -- o3
      refine OK_if (fun c2 => ?_) (fun c2 => ?_)
      · skip
        try simp (disch := omega) only [jst_eq, jst_ne, jst_ni, jI_i, jcmp_lt, jcmp_gt, w32_id, jcpy_out, Sum.elim_inl, Sum.elim_inr, jt2, jt3, jt4, jt5, jt6, jt7, jt8] at c2
        refine OK_ir ?_
        try dsimp only [Sum.elim_inl, Sum.elim_inr, jt2, jt3, jt4, jt5, jt6, jt7, jt8]
        refine ⟨?_, ?_⟩
        · (obtain ⟨r, r1, r2⟩ := (j3.2 x30 (by omega) (by omega)).2 (by assumption); exact ⟨j, j1, J5.2.1, ⟨r, r1, kyS_i v ⟨VL r r1, fun k y => trS_z r y⟩ ⟨VJ, ZJ⟩ (by omega)⟩, j2, j3, j4⟩) -- o4 e2.1
        · exact ⟨fr, bb⟩ -- o5 e2.2
      · skip
        try simp (disch := omega) only [jst_eq, jst_ne, jst_ni, jI_i, jcmp_lt, jcmp_gt, w32_id, jcpy_out, Sum.elim_inl, Sum.elim_inr, jt2, jt3, jt4, jt5, jt6, jt7, jt8] at c2
        have DJ : ∀ r, r < j → trS W L i r ≠ trS W L i j := fun r l e => by { have := j3.1 r l; rw [e] at this; exact c2 (by rw [ex30]; exact this) }
        have J4 := ps_lt ac wt v hi j1 J5.2.1 DJ
        refine OK_jl ?_
        have F32 : ∀ a s, ¬ (a = 815 ∧ s = x30) → jst h 815 x30 (h 454 97) a s = h a s := fun a s y => jst_o y
        have M32 : mkM (jst h 815 x30 (h 454 97)) W L i (j + 1) := by { refine ⟨fun r l => ?_, fun p p0 p1 => ?_⟩; { rw [jst_at, F32 454 97 (by omega)]; by_cases y : kyS (trS W L i r) = x30; { rw [if_pos y] }; { rw [if_neg y]; by_cases z : r = j; { rw [z] at y; exact absurd ex30.symm y }; { exact j3.1 r (by omega) } } }; { rw [jst_at, F32 454 97 (by omega)]; by_cases y : p = x30; { rw [if_pos y]; exact ⟨Int.le_refl _, fun _ => ⟨j, by omega, by omega⟩⟩ }; { rw [if_neg y]; have q := j3.2 p p0 p1; exact ⟨q.1, fun e => by obtain ⟨r, r1, r2⟩ := q.2 e; exact ⟨r, by omega, r2⟩⟩ } } }
        have B32 : bd20 (jst h 815 x30 (h 454 97)) := by { unfold bd20; rw [F32 _ _ (by omega)]; exact bb }
        generalize jst h 815 x30 (h 454 97) = g3 at *
        have RN3 : rnM g3 E Rf W L := rnM_f RN2 B32 (fun a s y1 y2 => F32 a s (by omega))
        have LN5 : (mtL W L i j ++ H).length = j + H.length := by { rw [List.length_append, mtL_len] }
        have D32 : mdM g3 W L H T i k j := mdM_f v j4 (fun a s y => F32 a s (by omega))
        refine OK_jb (vX14_meet (E := E) (Rf := Rf) (W := W) (L := L) (T := T) (s9 := trS W L i j) (l := mtL W L i j ++ H) (k := k) (by exact RN3.1) (by exact v) (by (unfold s3M; rw [F32 _ _ (by omega), F32 _ _ (by omega), F32 _ _ (by omega)]; exact ⟨⟨VJ, ZJ⟩, S3⟩)) (by exact akT_f ak (fun a s y => by rw [F32 a s (by omega)]; exact fr a s (by omega) (by omega))) (by (rw [F32 _ _ (by omega)]; omega)) (by exact kk) (by exact D32.1) (by omega)) (fun h34 r1 => ?_)
        try dsimp only [Sum.elim_inl, Sum.elim_inr, jt2, jt3, jt4, jt5, jt6, jt7, jt8] at r1
        obtain ⟨sn1, cn1, ak1, fr1, bb1⟩ := r1
        try simp (disch := omega) only [jst_eq, jst_ne, jst_ni, jI_i, jcmp_lt, jcmp_gt, w32_id, jcpy_out, Sum.elim_inl, Sum.elim_inr, jt2, jt3, jt4, jt5, jt6, jt7, jt8] at sn1
        try simp (disch := omega) only [jst_eq, jst_ne, jst_ni, jI_i, jcmp_lt, jcmp_gt, w32_id, jcpy_out, Sum.elim_inl, Sum.elim_inr, jt2, jt3, jt4, jt5, jt6, jt7, jt8] at cn1
        try simp (disch := omega) only [jst_eq, jst_ne, jst_ni, jI_i, jcmp_lt, jcmp_gt, w32_id, jcpy_out, Sum.elim_inl, Sum.elim_inr, jt2, jt3, jt4, jt5, jt6, jt7, jt8] at ak1
        try simp (disch := omega) only [jst_eq, jst_ne, jst_ni, jI_i, jcmp_lt, jcmp_gt, w32_id, jcpy_out, Sum.elim_inl, Sum.elim_inr, jt2, jt3, jt4, jt5, jt6, jt7, jt8] at fr1
        try simp (disch := omega) only [jst_eq, jst_ne, jst_ni, jI_i, jcmp_lt, jcmp_gt, w32_id, jcpy_out, Sum.elim_inl, Sum.elim_inr, jt2, jt3, jt4, jt5, jt6, jt7, jt8] at bb1
        have F34 : ∀ a s, ¬ (a = 454 ∧ (s = 20 ∨ s = 101 ∨ (103 ≤ s ∧ s ≤ 106))) → ¬ ((a = 815 ∨ a = 816) ∧ 0 ≤ s) → h34 a s = h a s := fun a s y1 y2 => by { rw [fr1 a s y1 (by omega)]; exact F32 a s (by omega) }
        have RN4 : rnM h34 E Rf W L := rnM_f RN2 bb1 (fun a s y1 y2 => F34 a s (by omega) (by omega))
        have C34 : h34 454 105 = (j : Int) + 1 := by { rw [cn1, F32 454 105 (by omega), j2] }
        have D34 : mdM h34 W L H T i k (j + 1) := by { refine ⟨sn1, fun z => ?_⟩; have q := ak1; rw [F32 454 100 (by omega), F32 454 101 (by omega), F32 454 105 (by omega), j2] at q; rw [F34 454 100 (by omega) (by omega)] at z; have n := j4.2 z; have nb : -1 ≤ h 454 101 := (by rcases n with y | y <;> omega); refine NF_s n ?_; rcases q.2 z with y | y | y; { exact Or.inl ⟨by omega, y.2.1, by omega⟩ }; { exact Or.inr (Or.inl ⟨by omega, y.2.1, y.2.2⟩) }; { exact Or.inr (Or.inr ⟨by omega, y.2⟩) } }
        have M34 : mkM h34 W L i (j + 1) := mkM_f v (fun r l => by { by_cases y : r = j; { rw [y]; exact VJ }; { exact VL r (by omega) } }) M32 (fun a s y => fr1 a s (by omega) (by omega))
        have S34 : h34 454 93 = trS W L i j 0 ∧ h34 454 94 = trS W L i j 1 ∧ h34 454 95 = trS W L i j 2 := by { rw [F34 _ _ (by omega) (by omega), F34 _ _ (by omega) (by omega), F34 _ _ (by omega) (by omega)]; exact S3 }
        have X34 : i2 = h34 454 92 := by { rw [F34 454 92 (by omega) (by omega)]; exact X2 }
        have LO4 := RN4.2.1
        have HP : (∀ n, 0 ≤ n → n < L.2.1.1 → vlR (L.2.1.2 n) (p3 (trS W L i j 0) (trS W L i j 1) (trS W L i j 2) n)) ∧ 0 ≤ L.2.1.1 ∧ L.2.1.1 ≤ 3 := ⟨fun n n0 n1 => by { rw [p3_s (by omega) n n0 n1]; exact VJ n n0 n1 }, by omega, by omega⟩
        rw [S34.1, S34.2.1, S34.2.2, X34]
        refine OK_jb2 (ans_M (E := E) (Rf := Rf) (W := W) (np := L.2.1.1) (kp := L.2.1.2) (R := L.2.2.2.1) (k := 1) _ _ _ _ _ (by exact RN4.1) (by exact LO4.2.2.2.2.2.1) (by exact v.2.2.2.1) (by exact HP)) (fun v36 h37 r2 => ?_)
        try dsimp only [Sum.elim_inl, Sum.elim_inr, jt2, jt3, jt4, jt5, jt6, jt7, jt8] at r2
        obtain ⟨ev2, fs2, bs2⟩ := r2
        try simp (disch := omega) only [jst_eq, jst_ne, jst_ni, jI_i, jcmp_lt, jcmp_gt, w32_id, jcpy_out, Sum.elim_inl, Sum.elim_inr, jt2, jt3, jt4, jt5, jt6, jt7, jt8] at ev2
        try simp (disch := omega) only [jst_eq, jst_ne, jst_ni, jI_i, jcmp_lt, jcmp_gt, w32_id, jcpy_out, Sum.elim_inl, Sum.elim_inr, jt2, jt3, jt4, jt5, jt6, jt7, jt8] at fs2
        try simp (disch := omega) only [jst_eq, jst_ne, jst_ni, jI_i, jcmp_lt, jcmp_gt, w32_id, jcpy_out, Sum.elim_inl, Sum.elim_inr, jt2, jt3, jt4, jt5, jt6, jt7, jt8] at bs2
        have V36 : v36 = cdS W L (trS W L i j) := by { rw [ev2]; exact evL_c v.2.2.2.1.2.2.1 (fun c c0 c1 => p3_s (by omega) c c0 c1) }
        have TB : okV 1 v36 := by { rw [V36]; exact evL_ty ac wt v.2.2.2.1 VJ }
        have RN7 : rnM h37 E Rf W L := rnM_f RN4 bs2 (fun a s y1 y2 => fs2 a s (by omega))
        have LO7 := RN7.2.1
        have D37 : mdM h37 W L H T i k (j + 1) := mdM_f v D34 (fun a s y => fs2 a s (by omega))
        have VLJ : ∀ r, r < j + 1 → vlS L (trS W L i r) := fun r l => by { by_cases y : r = j; { rw [y]; exact VJ }; { exact VL r (by omega) } }
        have M37 : mkM h37 W L i (j + 1) := mkM_f v VLJ M34 (fun a s y => fs2 a s (by omega))
        have C37 : h37 454 105 = (j : Int) + 1 := by { rw [fs2 _ _ (by omega)]; exact C34 }
        have S37 : h37 454 93 = trS W L i j 0 ∧ h37 454 94 = trS W L i j 1 ∧ h37 454 95 = trS W L i j 2 := by { rw [fs2 _ _ (by omega), fs2 _ _ (by omega), fs2 _ _ (by omega)]; exact S34 }
        have X37 : h34 454 92 = h37 454 92 := (fs2 _ _ (by omega)).symm
        have F37 : ∀ a s, ¬ (a = 454 ∧ (s = 20 ∨ (93 ≤ s ∧ s ≤ 95) ∨ s = 101 ∨ (103 ≤ s ∧ s ≤ 106))) → ¬ ((a = 815 ∨ a = 816) ∧ 0 ≤ s) → h37 a s = h0 a s := fun a s y1 y2 => by { rw [fs2 a s (by omega), F34 a s (by omega) y2]; exact fr a s y1 y2 }
        refine OK_if (fun c3 => ?_) (fun c3 => ?_)
        · skip
          try simp (disch := omega) only [jst_eq, jst_ne, jst_ni, jI_i, jcmp_lt, jcmp_gt, w32_id, jcpy_out, Sum.elim_inl, Sum.elim_inr, jt2, jt3, jt4, jt5, jt6, jt7, jt8] at c3
          refine OK_ir ?_
          try dsimp only [Sum.elim_inl, Sum.elim_inr, jt2, jt3, jt4, jt5, jt6, jt7, jt8]
          refine ⟨?_, ?_⟩
          · exact ⟨j, j1, Or.inr (Or.inr (Or.inl ⟨J5.2.1, DJ, by omega, rfl, rfl, rfl⟩)), C37, M37, D37⟩ -- o18 e3.1
          · exact ⟨F37, bs2⟩ -- o19 e3.2
        · skip
          try simp (disch := omega) only [jst_eq, jst_ne, jst_ni, jI_i, jcmp_lt, jcmp_gt, w32_id, jcpy_out, Sum.elim_inl, Sum.elim_inr, jt2, jt3, jt4, jt5, jt6, jt7, jt8] at c3
          refine OK_if (fun c4 => ?_) (fun c4 => ?_)
          · skip
            try simp (disch := omega) only [jst_eq, jst_ne, jst_ni, jI_i, jcmp_lt, jcmp_gt, w32_id, jcpy_out, Sum.elim_inl, Sum.elim_inr, jt2, jt3, jt4, jt5, jt6, jt7, jt8] at c4
            refine OK_ir ?_
            try dsimp only [Sum.elim_inl, Sum.elim_inr, jt2, jt3, jt4, jt5, jt6, jt7, jt8]
            refine ⟨?_, ?_⟩
            · exact ⟨j, j1, J5.2.1, DJ, by omega, C37, M37, D37, S37, VJ⟩ -- o20 e4.1
            · exact ⟨F37, bs2⟩ -- o21 e4.2
          · skip
            try simp (disch := omega) only [jst_eq, jst_ne, jst_ni, jI_i, jcmp_lt, jcmp_gt, w32_id, jcpy_out, Sum.elim_inl, Sum.elim_inr, jt2, jt3, jt4, jt5, jt6, jt7, jt8] at c4
            rw [X37, LO7.2.2.1, S37.1, S37.2.1, S37.2.2]
            refine OK_jb2 (vX14_step (E := E) (Rf := Rf) (W := W) (np := L.2.1.1) (kp := L.2.1.2) (kq := L.2.1.2) (Rr := L.2.2.2.2.1) _ _ _ _ _ (by exact RN7.1) (by (have q := LO7.2.2.2.2.2.2.2.2.2; have q2 := LO7.1; exact ⟨q.1, q.2, by omega⟩)) (by omega) (by exact fun k k0 k1 => ⟨(LO7.2.2.2.2.1 k k0 k1).2.2, (v.2.2.1 k k0 k1).2⟩) (by exact HP)) (fun v41 h42 r3 => ?_)
            try dsimp only [Sum.elim_inl, Sum.elim_inr, jt2, jt3, jt4, jt5, jt6, jt7, jt8] at r3
            obtain ⟨so3, st3, fr3, bb3⟩ := r3
            try simp (disch := omega) only [jst_eq, jst_ne, jst_ni, jI_i, jcmp_lt, jcmp_gt, w32_id, jcpy_out, Sum.elim_inl, Sum.elim_inr, jt2, jt3, jt4, jt5, jt6, jt7, jt8] at so3
            try simp (disch := omega) only [jst_eq, jst_ne, jst_ni, jI_i, jcmp_lt, jcmp_gt, w32_id, jcpy_out, Sum.elim_inl, Sum.elim_inr, jt2, jt3, jt4, jt5, jt6, jt7, jt8] at st3
            try simp (disch := omega) only [jst_eq, jst_ne, jst_ni, jI_i, jcmp_lt, jcmp_gt, w32_id, jcpy_out, Sum.elim_inl, Sum.elim_inr, jt2, jt3, jt4, jt5, jt6, jt7, jt8] at fr3
            try simp (disch := omega) only [jst_eq, jst_ne, jst_ni, jI_i, jcmp_lt, jcmp_gt, w32_id, jcpy_out, Sum.elim_inl, Sum.elim_inr, jt2, jt3, jt4, jt5, jt6, jt7, jt8] at bb3
            have EQ9 : alS W L.2.1.1 L.2.2.2.2.1 (p3 (trS W L i j 0) (trS W L i j 1) (trS W L i j 2)) = trS W L i (j + 1) := funext fun k => by { show _ = nxS W L (trS W L i j) k; unfold alS nxS; by_cases y : 0 ≤ k ∧ k < L.2.1.1; { rw [if_pos y, if_pos y]; exact evL_c (v.2.2.1 k y.1 y.2).2.2.2.1 (fun c c0 c1 => p3_s (by omega) c c0 c1) }; { rw [if_neg y, if_neg y] } }
            rw [EQ9] at so3 st3
            refine OK_il ?_ ?_
            · try dsimp only [Sum.elim_inl, Sum.elim_inr, jt2, jt3, jt4, jt5, jt6, jt7, jt8]
              refine ⟨?_, ?_, ?_⟩
              · (have C1 : cdS W L (trS W L i j) = 1 := (by rw [← V36]; rcases TB with z | z; { omega }; { have := z.2.2.1 rfl; have := z.1; omega }); refine ⟨j + 1, psI_s j1 J5.2.1 C1 DJ, ?_, mkM_f v VLJ M37 (fun a s y => fr3 a s (by omega)), mdM_f v D37 (fun a s y => fr3 a s (by omega)), ?_⟩; { rw [fr3 _ _ (by omega), C37]; omega }; { rcases so3 with z | z; { left; exact ⟨z.1, z.2, st3⟩ }; { right; refine ⟨z.1, fun y => ?_⟩; obtain ⟨k, k0, k1, k2⟩ := z.2; exact y k k0 k1 k2 } }) -- o27 e5i.1
              · exact fun a s y1 y2 => by rw [fr3 a s (by omega)]; exact F37 a s y1 y2 -- o28 e5i.2
              · exact bb3 -- o29 e5i.3
            · (have q05 := fr3 454 105 (by omega); show (4098 - h42 454 105).toNat < (4098 - h 454 105).toNat; omega) -- o30 e5m
  · try dsimp only [Sum.elim_inl, Sum.elim_inr, jt2, jt3, jt4, jt5, jt6, jt7, jt8]
    refine ⟨?_, ?_, ?_⟩
    · exact li -- o31 init.1
    · exact fun _ _ _ _ => rfl -- o32 init.2
    · exact rn.1.2.2 -- o33 init.3
theorem vX14_play (a1 : Int) {h : AH} {E : EV} {Rf : Int → TR} {W : Int → Int → Int → VW} {L : LE} {H : List (Int → Int)} {T : TR} {k : Int} (rn : rnM h E Rf W L) (hi : 0 ≤ a1 ∧ a1 ≤ 1000) (mk : (0 ≤ h 454 97 ∧ h 454 97 ≤ 1000000000) ∧ ∀ p, 0 ≤ p → p < 4096 → h 815 p ≤ h 454 97) (ak : akT h E L T) (kk : 0 ≤ k ∧ k ≤ 2) (hl : H.length ≤ 1990000) (se : snM h L k H) : OK (gX14_play a1 h) (fun h' => (RN W L a1 (h' 454 107) (h' 454 105) (h' 454 108) ∧ 0 ≤ h' 454 105) ∧ (mdM h' W L H T a1 k (h' 454 105).toNat) ∧ (h' 454 97 = h 454 97 + 1 ∧ ∀ p, 0 ≤ p → p < 4096 → h' 815 p ≤ h' 454 97) ∧ (fPl h h' ∧ h' 454 100 = h 454 100 ∧ h' 454 99 = h 454 99) ∧ (bd20 h')) := by
  have v := rn.2.2
  have n2 := v.1
  have n3 := v.2.1
  have LO := rn.2.1
  have LX := LO.1
  unfold gX14_play
  refine OK_jlx (fun x1 ex1 => ?_)
  try simp (disch := omega) only [jst_eq, jst_ne, jst_ni, jI_i, jcmp_lt, jcmp_gt, w32_id, jcpy_out, Sum.elim_inl, Sum.elim_inr, jt2, jt3, jt4, jt5, jt6, jt7, jt8] at ex1
  refine OK_jl ?_
  rw [w32_id (x := h 454 97 + 1) (by omega) (by omega)]
  refine OK_jl ?_
  refine OK_jl ?_
  refine OK_jl ?_
  refine OK_jl ?_
  have F6 : ∀ a s, ¬ (a = 454 ∧ (s = 97 ∨ s = 101 ∨ s = 105 ∨ s = 107 ∨ s = 108)) → jst (jst (jst (jst (jst h 454 97 (h 454 97 + 1)) 454 105 0) 454 101 (-1)) 454 108 (-1)) 454 107 2 a s = h a s := fun a s y => by { rw [jst_o (by omega), jst_o (by omega), jst_o (by omega), jst_o (by omega), jst_o (by omega)] }
  have C6 : jst (jst (jst (jst (jst h 454 97 (h 454 97 + 1)) 454 105 0) 454 101 (-1)) 454 108 (-1)) 454 107 2 454 97 = h 454 97 + 1 ∧ jst (jst (jst (jst (jst h 454 97 (h 454 97 + 1)) 454 105 0) 454 101 (-1)) 454 108 (-1)) 454 107 2 454 105 = 0 ∧ jst (jst (jst (jst (jst h 454 97 (h 454 97 + 1)) 454 105 0) 454 101 (-1)) 454 108 (-1)) 454 107 2 454 101 = -1 ∧ jst (jst (jst (jst (jst h 454 97 (h 454 97 + 1)) 454 105 0) 454 101 (-1)) 454 108 (-1)) 454 107 2 454 108 = -1 ∧ jst (jst (jst (jst (jst h 454 97 (h 454 97 + 1)) 454 105 0) 454 101 (-1)) 454 108 (-1)) 454 107 2 454 107 = 2 := ⟨by { rw [jst_ni (by decide), jst_ni (by decide), jst_ni (by decide), jst_ni (by decide), jst_eq] }, by { rw [jst_ni (by decide), jst_ni (by decide), jst_ni (by decide), jst_eq] }, by { rw [jst_ni (by decide), jst_ni (by decide), jst_eq] }, by { rw [jst_ni (by decide), jst_eq] }, jst_eq⟩
  generalize jst (jst (jst (jst (jst h 454 97 (h 454 97 + 1)) 454 105 0) 454 101 (-1)) 454 108 (-1)) 454 107 2 = g6 at *
  have B6 : bd20 g6 := by { unfold bd20; rw [F6 _ _ (by omega)]; exact rn.1.2.2 }
  have P6 : fPl h g6 := fun a s y1 y2 => F6 a s (by omega)
  have RN6 := rnM_f rn B6 P6
  have LO6 := RN6.2.1
  have XX : x1 = g6 454 92 := by { rw [F6 _ _ (by omega)]; exact ex1 }
  rw [XX, LO6.2.1, LO6.2.2.1]
  refine OK_jg (by (have := LO6.1; unfold isX17; omega)) ?_ -- o1
  refine OK_jb (vX14_valueAt (n := L.1.1) (kf := L.1.2) _ _ _ _ _ (by (have q := LO6.2.2.2.2.2.2.2.1; omega)) (by exact fun k k0 k1 => ⟨by rw [Int.zero_add]; exact LO6.2.2.2.1 k k0 k1, (n2.2.2 k k0 k1).1, by have := (n2.2.2 k k0 k1).2; omega⟩) (by omega)) (fun v8 r1 => ?_)
  try dsimp only [Sum.elim_inl, Sum.elim_inr, jt2, jt3, jt4, jt5, jt6, jt7, jt8] at r1
  have vv1 := r1
  clear r1
  try simp (disch := omega) only [jst_eq, jst_ne, jst_ni, jI_i, jcmp_lt, jcmp_gt, w32_id, jcpy_out, Sum.elim_inl, Sum.elim_inr, jt2, jt3, jt4, jt5, jt6, jt7, jt8] at vv1
  skip
  refine OK_jb (vX14_valueAt (n := L.1.1) (kf := L.1.2) _ _ _ _ _ (by (have q := LO6.2.2.2.2.2.2.2.1; omega)) (by exact fun k k0 k1 => ⟨by rw [Int.zero_add]; exact LO6.2.2.2.1 k k0 k1, (n2.2.2 k k0 k1).1, by have := (n2.2.2 k k0 k1).2; omega⟩) (by omega)) (fun v10 r2 => ?_)
  try dsimp only [Sum.elim_inl, Sum.elim_inr, jt2, jt3, jt4, jt5, jt6, jt7, jt8] at r2
  have vv2 := r2
  clear r2
  try simp (disch := omega) only [jst_eq, jst_ne, jst_ni, jI_i, jcmp_lt, jcmp_gt, w32_id, jcpy_out, Sum.elim_inl, Sum.elim_inr, jt2, jt3, jt4, jt5, jt6, jt7, jt8] at vv2
  have V8 : v8 = inS L a1 0 := by assumption
  have V10 : v10 = inS L a1 1 := by assumption
  have P0 : ∀ c, 0 ≤ c → c < L.1.1 → p3 v8 v10 0 c = inS L a1 c := fun c c0 c1 => by { unfold p3; rcases (show c = 0 ∨ c = 1 by omega) with e | e; { rw [if_pos e, e, V8] }; { rw [if_neg (by omega), if_pos e, e, V10] } }
  refine OK_jb2 (vX14_step (E := E) (Rf := Rf) (W := W) (np := L.1.1) (kp := L.1.2) (kq := L.2.1.2) (Rr := L.2.2.1) _ _ _ _ _ (by exact RN6.1) (by (have q := LO6.2.2.2.2.2.2.2.2.1; have q2 := LO6.1; exact ⟨q.1, q.2, by omega⟩)) (by omega) (by exact fun k k0 k1 => ⟨(LO6.2.2.2.2.1 k k0 k1).2.1, (v.2.2.1 k k0 k1).1⟩) (by exact ⟨fun n n0 n1 => by rw [P0 n n0 n1]; exact inS_v v n n0 n1, by omega, by omega⟩)) (fun v12 h13 r3 => ?_)
  try dsimp only [Sum.elim_inl, Sum.elim_inr, jt2, jt3, jt4, jt5, jt6, jt7, jt8] at r3
  obtain ⟨so3, st3, fr3, bb3⟩ := r3
  try simp (disch := omega) only [jst_eq, jst_ne, jst_ni, jI_i, jcmp_lt, jcmp_gt, w32_id, jcpy_out, Sum.elim_inl, Sum.elim_inr, jt2, jt3, jt4, jt5, jt6, jt7, jt8] at so3
  try simp (disch := omega) only [jst_eq, jst_ne, jst_ni, jI_i, jcmp_lt, jcmp_gt, w32_id, jcpy_out, Sum.elim_inl, Sum.elim_inr, jt2, jt3, jt4, jt5, jt6, jt7, jt8] at st3
  try simp (disch := omega) only [jst_eq, jst_ne, jst_ni, jI_i, jcmp_lt, jcmp_gt, w32_id, jcpy_out, Sum.elim_inl, Sum.elim_inr, jt2, jt3, jt4, jt5, jt6, jt7, jt8] at fr3
  try simp (disch := omega) only [jst_eq, jst_ne, jst_ni, jI_i, jcmp_lt, jcmp_gt, w32_id, jcpy_out, Sum.elim_inl, Sum.elim_inr, jt2, jt3, jt4, jt5, jt6, jt7, jt8] at bb3
  have EQ9 : alS W L.2.1.1 L.2.2.1 (p3 v8 v10 0) = trS W L a1 0 := funext fun k => by { show _ = st0 W L a1 k; unfold alS st0; by_cases y : 0 ≤ k ∧ k < L.2.1.1; { rw [if_pos y, if_pos y]; exact evL_c (v.2.2.1 k y.1 y.2).1.2.2.1 P0 }; { rw [if_neg y, if_neg y] } }
  rw [EQ9] at so3 st3
  have F13 : ∀ a s, ¬ (a = 454 ∧ (s = 20 ∨ (93 ≤ s ∧ s ≤ 95) ∨ s = 97 ∨ s = 101 ∨ s = 105 ∨ s = 107 ∨ s = 108)) → h13 a s = h a s := fun a s y => by { rw [fr3 a s (by omega)]; exact F6 a s (by omega) }
  have RN13 : rnM h13 E Rf W L := rnM_f RN6 bb3 (fun a s y1 y2 => fr3 a s (by omega))
  have X13 : g6 454 92 = h13 454 92 := (fr3 _ _ (by omega)).symm
  have C13 : h13 454 107 = 2 ∧ h13 454 108 = -1 ∧ h13 454 97 = h 454 97 + 1 ∧ h13 454 100 = h 454 100 ∧ h13 454 99 = h 454 99 := by { rw [fr3 _ _ (by omega), fr3 _ _ (by omega), fr3 _ _ (by omega)]; exact ⟨C6.2.2.2.2, C6.2.2.2.1, C6.1, F13 _ _ (by omega), F13 _ _ (by omega)⟩ }
  have GF : ∀ g : AH, (∀ a s, ¬ (a = 454 ∧ (s = 20 ∨ (93 ≤ s ∧ s ≤ 95) ∨ s = 101 ∨ (103 ≤ s ∧ s ≤ 106) ∨ s = 107 ∨ s = 108)) → ¬ ((a = 815 ∨ a = 816) ∧ 0 ≤ s) → g a s = h13 a s) → fPl h g ∧ g 454 100 = h 454 100 ∧ g 454 99 = h 454 99 := fun g f => ⟨fun a s y1 y2 => by (rw [f a s (by omega) y2]; exact F13 a s (by omega)), by (rw [f _ _ (by omega) (by omega)]; exact C13.2.2.2.1), by (rw [f _ _ (by omega) (by omega)]; exact C13.2.2.2.2)⟩
  refine OK_jb (vX14_play_l77 (E := E) (Rf := Rf) (W := W) (L := L) (H := H) (T := T) (i := a1) (k := k) _ _ (by exact RN13) (by exact hi.1) (by exact X13) (by exact akT_f ak (fun a s y => F13 a s (by omega))) (by exact kk) (by exact hl) (by (refine ⟨0, fun q l => absurd l (Nat.not_lt_zero q), by rw [fr3 _ _ (by omega)]; exact C6.2.1, ⟨fun r l => absurd l (Nat.not_lt_zero r), fun p p0 p1 => ?_⟩, ⟨snM_f ⟨E, v⟩ se (fun a s y => F13 a s (by omega)), fun _ => Or.inl ⟨by rw [fr3 _ _ (by omega)]; exact C6.2.2.1, fun q l => by omega⟩⟩, ?_⟩; { rw [fr3 454 97 (by omega), C6.1, F13 815 p (by omega)]; have q := mk.2 p p0 p1; exact ⟨by omega, fun z => by omega⟩ }; { rcases so3 with z | z; { left; exact ⟨z.1, z.2, st3⟩ }; { right; refine ⟨z.1, fun y => ?_⟩; obtain ⟨k, k0, k1, k2⟩ := z.2; exact y k k0 k1 k2 } }))) (fun o14 r4 => ?_)
  rcases o14 with o16 | o17
  · skip
    have r5 := r4; clear r4
    dsimp only [Sum.elim_inl, Sum.elim_inr] at r5
    try dsimp only [Sum.elim_inl, Sum.elim_inr, jt2, jt3, jt4, jt5, jt6, jt7, jt8] at r5
    obtain ⟨vi4, g14⟩ := r5
    try simp (disch := omega) only [jst_eq, jst_ne, jst_ni, jI_i, jcmp_lt, jcmp_gt, w32_id, jcpy_out, Sum.elim_inl, Sum.elim_inr, jt2, jt3, jt4, jt5, jt6, jt7, jt8] at vi4
    try simp (disch := omega) only [jst_eq, jst_ne, jst_ni, jI_i, jcmp_lt, jcmp_gt, w32_id, jcpy_out, Sum.elim_inl, Sum.elim_inr, jt2, jt3, jt4, jt5, jt6, jt7, jt8] at g14
    refine OK_jml ?_
    have VI : ∃ j : Nat, psI W L a1 j ∧ gdS L (trS W L a1 j) ∧ (∃ r, r < j ∧ trS W L a1 r = trS W L a1 j) ∧ o16 454 105 = j ∧ mkM o16 W L a1 j ∧ mdM o16 W L H T a1 k j := by assumption
    obtain ⟨j, j1, j2, j3, j4, j5, j6⟩ := VI
    have G1 : (∀ a s, ¬ (a = 454 ∧ (s = 20 ∨ (93 ≤ s ∧ s ≤ 95) ∨ s = 101 ∨ (103 ≤ s ∧ s ≤ 106))) → ¬ ((a = 815 ∨ a = 816) ∧ 0 ≤ s) → o16 a s = h13 a s) ∧ bd20 o16 := by assumption
    refine OK_jl ?_
    have K16 : ∀ a s, ¬ (a = 454 ∧ s = 107) → jst o16 454 107 0 a s = o16 a s := fun a s y => jst_o y
    have C16 : jst o16 454 107 0 454 107 = 0 := jst_eq
    generalize jst o16 454 107 0 = g9 at *
    refine OK_some ?_
    try dsimp only [Sum.elim_inl, Sum.elim_inr, jt2, jt3, jt4, jt5, jt6, jt7, jt8]
    try dsimp only [Sum.elim_inl, Sum.elim_inr, jt2, jt3, jt4, jt5, jt6, jt7, jt8]
    refine ⟨?_, ?_, ?_, ?_, ?_⟩
    · (rw [C16, K16 454 105 (by omega), K16 454 108 (by omega), j4, G1.1 454 108 (by omega) (by omega), C13.2.1]; exact ⟨⟨j, j1, Or.inr (Or.inl ⟨j2, j3, rfl, rfl, rfl⟩)⟩, by omega⟩) -- o20 e1.1
    · (rw [K16 454 105 (by omega), j4, show ((j : Int)).toNat = j by omega]; exact mdM_f v j6 (fun a s q => K16 a s (by omega))) -- o21 e1.2
    · (refine ⟨by rw [K16 _ _ (by omega), G1.1 _ _ (by omega) (by omega)]; exact C13.2.2.1, fun p p0 p1 => ?_⟩; rw [K16 _ _ (by omega), K16 _ _ (by omega)]; exact (j5.2 p p0 p1).1) -- o22 e1.3
    · exact GF g9 (fun a s y1 y2 => by rw [K16 _ _ (by omega)]; exact G1.1 a s (by omega) y2) -- o23 e1.4
    · (unfold bd20; rw [K16 _ _ (by omega)]; exact G1.2) -- o24 e1.5
  · skip
    have r6 := r4; clear r4
    dsimp only [Sum.elim_inl, Sum.elim_inr] at r6
    refine OK_jmr ?_
    rcases o17 with o19 | o20
    · skip
      have r7 := r6; clear r6
      dsimp only [Sum.elim_inl, Sum.elim_inr] at r7
      try dsimp only [Sum.elim_inl, Sum.elim_inr, jt2, jt3, jt4, jt5, jt6, jt7, jt8] at r7
      obtain ⟨er5, g25⟩ := r7
      try simp (disch := omega) only [jst_eq, jst_ne, jst_ni, jI_i, jcmp_lt, jcmp_gt, w32_id, jcpy_out, Sum.elim_inl, Sum.elim_inr, jt2, jt3, jt4, jt5, jt6, jt7, jt8] at er5
      try simp (disch := omega) only [jst_eq, jst_ne, jst_ni, jI_i, jcmp_lt, jcmp_gt, w32_id, jcpy_out, Sum.elim_inl, Sum.elim_inr, jt2, jt3, jt4, jt5, jt6, jt7, jt8] at g25
      refine OK_jml ?_
      have VI : ∃ j : Nat, psI W L a1 j ∧ enI W L a1 j 2 (j + 1) (-1) ∧ o19 454 105 = j + 1 ∧ mkM o19 W L a1 (j + 1) ∧ mdM o19 W L H T a1 k (j + 1) := by assumption
      obtain ⟨j, j1, j2, j4, j5, j6⟩ := VI
      have G1 : (∀ a s, ¬ (a = 454 ∧ (s = 20 ∨ (93 ≤ s ∧ s ≤ 95) ∨ s = 101 ∨ (103 ≤ s ∧ s ≤ 106))) → ¬ ((a = 815 ∨ a = 816) ∧ 0 ≤ s) → o19 a s = h13 a s) ∧ bd20 o19 := by assumption
      refine OK_some ?_
      try dsimp only [Sum.elim_inl, Sum.elim_inr, jt2, jt3, jt4, jt5, jt6, jt7, jt8]
      try dsimp only [Sum.elim_inl, Sum.elim_inr, jt2, jt3, jt4, jt5, jt6, jt7, jt8]
      refine ⟨?_, ?_, ?_, ?_, ?_⟩
      · (rw [j4, G1.1 454 108 (by omega) (by omega), C13.2.1, G1.1 454 107 (by omega) (by omega), C13.1]; exact ⟨⟨j, j1, j2⟩, by omega⟩) -- o25 e2.1
      · (rw [j4, show ((j : Int) + 1).toNat = j + 1 by omega]; exact j6) -- o26 e2.2
      · exact ⟨by rw [G1.1 _ _ (by omega) (by omega)]; exact C13.2.2.1, fun p p0 p1 => (j5.2 p p0 p1).1⟩ -- o27 e2.3
      · exact GF o19 (fun a s y1 y2 => G1.1 a s (by omega) y2) -- o28 e2.4
      · exact G1.2 -- o29 e2.5
    · skip
      have r8 := r6; clear r6
      dsimp only [Sum.elim_inl, Sum.elim_inr] at r8
      refine OK_jmr ?_
      rcases o20 with o21 | o22
      · skip
        have r9 := r8; clear r8
        dsimp only [Sum.elim_inl, Sum.elim_inr] at r9
        try dsimp only [Sum.elim_inl, Sum.elim_inr, jt2, jt3, jt4, jt5, jt6, jt7, jt8] at r9
        obtain ⟨zo6, g36⟩ := r9
        try simp (disch := omega) only [jst_eq, jst_ne, jst_ni, jI_i, jcmp_lt, jcmp_gt, w32_id, jcpy_out, Sum.elim_inl, Sum.elim_inr, jt2, jt3, jt4, jt5, jt6, jt7, jt8] at zo6
        try simp (disch := omega) only [jst_eq, jst_ne, jst_ni, jI_i, jcmp_lt, jcmp_gt, w32_id, jcpy_out, Sum.elim_inl, Sum.elim_inr, jt2, jt3, jt4, jt5, jt6, jt7, jt8] at g36
        refine OK_jml ?_
        have VI : ∃ j : Nat, psI W L a1 j ∧ gdS L (trS W L a1 j) ∧ (∀ r, r < j → trS W L a1 r ≠ trS W L a1 j) ∧ cdS W L (trS W L a1 j) = 0 ∧ o21 454 105 = j + 1 ∧ mkM o21 W L a1 (j + 1) ∧ mdM o21 W L H T a1 k (j + 1) ∧ s3M o21 (trS W L a1 j) ∧ vlS L (trS W L a1 j) := by assumption
        obtain ⟨j, j1, j2, j3, j4, j5, j6, j7, j8, VJ⟩ := VI
        have G1 : (∀ a s, ¬ (a = 454 ∧ (s = 20 ∨ (93 ≤ s ∧ s ≤ 95) ∨ s = 101 ∨ (103 ≤ s ∧ s ≤ 106))) → ¬ ((a = 815 ∨ a = 816) ∧ 0 ≤ s) → o21 a s = h13 a s) ∧ bd20 o21 := by assumption
        have RN21 : rnM o21 E Rf W L := rnM_f RN13 G1.2 (fun a s y1 y2 => G1.1 a s (by omega) y2)
        have X21 : h13 454 92 = o21 454 92 := (G1.1 _ _ (by omega) (by omega)).symm
        have S21 : o21 454 93 = trS W L a1 j 0 ∧ o21 454 94 = trS W L a1 j 1 ∧ o21 454 95 = trS W L a1 j 2 := j8
        obtain ⟨gk, GK⟩ := v.2.2.2.2
        rw [X13, X21, S21.1, S21.2.1, S21.2.2]
        refine OK_jb2 (ans_M (E := E) (Rf := Rf) (W := W) (np := L.2.1.1) (kp := L.2.1.2) (R := L.2.2.2.2.2) (k := gk) _ _ _ _ _ (by exact RN21.1) (by exact RN21.2.1.2.2.2.2.2.2.1) (by exact GK) (by exact ⟨fun n n0 n1 => by rw [p3_s (by omega) n n0 n1]; exact VJ n n0 n1, by omega, by omega⟩)) (fun v24 h25 r10 => ?_)
        try dsimp only [Sum.elim_inl, Sum.elim_inr, jt2, jt3, jt4, jt5, jt6, jt7, jt8] at r10
        obtain ⟨ev7, fs7, bs7⟩ := r10
        try simp (disch := omega) only [jst_eq, jst_ne, jst_ni, jI_i, jcmp_lt, jcmp_gt, w32_id, jcpy_out, Sum.elim_inl, Sum.elim_inr, jt2, jt3, jt4, jt5, jt6, jt7, jt8] at ev7
        try simp (disch := omega) only [jst_eq, jst_ne, jst_ni, jI_i, jcmp_lt, jcmp_gt, w32_id, jcpy_out, Sum.elim_inl, Sum.elim_inr, jt2, jt3, jt4, jt5, jt6, jt7, jt8] at fs7
        try simp (disch := omega) only [jst_eq, jst_ne, jst_ni, jI_i, jcmp_lt, jcmp_gt, w32_id, jcpy_out, Sum.elim_inl, Sum.elim_inr, jt2, jt3, jt4, jt5, jt6, jt7, jt8] at bs7
        have V24 : v24 = evL W L.2.2.2.2.2 (trS W L a1 j) := by { rw [show v24 = evL W L.2.2.2.2.2 (p3 (trS W L a1 j 0) (trS W L a1 j 1) (trS W L a1 j 2)) by assumption]; exact evL_c GK.2.2.1 (fun c c0 c1 => p3_s (by omega) c c0 c1) }
        have FS : ∀ a s, ¬ (a = 454 ∧ s = 20) → h25 a s = o21 a s := by assumption
        have BS : bd20 h25 := by assumption
        refine OK_jl ?_
        have E26 : jst h25 454 108 v24 454 108 = v24 := jst_eq
        have K26 : ∀ a s, ¬ (a = 454 ∧ s = 108) → jst h25 454 108 v24 a s = h25 a s := fun a s y => jst_o y
        rw [E26]
        generalize jst h25 454 108 v24 = g26 at *
        have P22 : ∀ t1 a s, ¬ (a = 454 ∧ (s = 20 ∨ s = 107 ∨ s = 108)) → jst g26 454 107 t1 a s = o21 a s := fun t1 a s y => by { rw [jst_o (by omega), K26 _ _ (by omega)]; exact FS a s (by omega) }
        have P47 : ∀ t1, jst g26 454 107 t1 454 108 = v24 := fun t1 => by { rw [jst_ni (by decide)]; exact E26 }
        have PB : ∀ t1, bd20 (jst g26 454 107 t1) := fun t1 => by { unfold bd20; rw [jst_ni (by decide), K26 _ _ (by omega)]; exact BS }
        have PR : ∀ t1, t1 = (if v24 = -1 then (2 : Int) else 1) → RN W L a1 (jst g26 454 107 t1 454 107) (jst g26 454 107 t1 454 105) (jst g26 454 107 t1 454 108) ∧ 0 ≤ jst g26 454 107 t1 454 105 := fun t1 e9 => by { rw [jst_eq, P47, P22 t1 454 105 (by omega), j5]; exact ⟨⟨j, j1, Or.inr (Or.inr (Or.inr ⟨j2, j3, j4, V24, e9, rfl⟩))⟩, by omega⟩ }
        have PM : ∀ t1, mdM (jst g26 454 107 t1) W L H T a1 k (jst g26 454 107 t1 454 105).toNat := fun t1 => by { rw [P22 t1 454 105 (by omega), j5, show ((j : Int) + 1).toNat = j + 1 by omega]; exact mdM_f v j7 (fun a s q => P22 t1 a s (by omega)) }
        have PK : ∀ t1, jst g26 454 107 t1 454 97 = h 454 97 + 1 ∧ ∀ p, 0 ≤ p → p < 4096 → jst g26 454 107 t1 815 p ≤ jst g26 454 107 t1 454 97 := fun t1 => ⟨by { rw [P22 t1 _ _ (by omega), G1.1 _ _ (by omega) (by omega)]; exact C13.2.2.1 }, fun p p0 p1 => by { rw [P22 t1 _ _ (by omega), P22 t1 _ _ (by omega)]; exact (j6.2 p p0 p1).1 }⟩
        have PF : ∀ t1, fPl h (jst g26 454 107 t1) ∧ jst g26 454 107 t1 454 100 = h 454 100 ∧ jst g26 454 107 t1 454 99 = h 454 99 := fun t1 => GF _ (fun a s y1 y2 => by (rw [P22 t1 a s (by omega)]; exact G1.1 a s (by omega) y2))
        refine OK_if (fun c1 => ?_) (fun c1 => ?_)
        · skip
          try simp (disch := omega) only [jst_eq, jst_ne, jst_ni, jI_i, jcmp_lt, jcmp_gt, w32_id, jcpy_out, Sum.elim_inl, Sum.elim_inr, jt2, jt3, jt4, jt5, jt6, jt7, jt8] at c1
          unfold gX14_play_j211
          refine OK_jl ?_
          refine OK_some ?_
          try dsimp only [Sum.elim_inl, Sum.elim_inr, jt2, jt3, jt4, jt5, jt6, jt7, jt8]
          try dsimp only [Sum.elim_inl, Sum.elim_inr, jt2, jt3, jt4, jt5, jt6, jt7, jt8]
          refine ⟨?_, ?_, ?_, ?_, ?_⟩
          · exact PR 2 (by rw [if_pos (by omega)]) -- o34 e3.1
          · exact PM 2 -- o35 e3.2
          · exact PK 2 -- o36 e3.3
          · exact PF 2 -- o37 e3.4
          · exact PB 2 -- o38 e3.5
        · skip
          try simp (disch := omega) only [jst_eq, jst_ne, jst_ni, jI_i, jcmp_lt, jcmp_gt, w32_id, jcpy_out, Sum.elim_inl, Sum.elim_inr, jt2, jt3, jt4, jt5, jt6, jt7, jt8] at c1
          unfold gX14_play_j211
          refine OK_jl ?_
          refine OK_some ?_
          try dsimp only [Sum.elim_inl, Sum.elim_inr, jt2, jt3, jt4, jt5, jt6, jt7, jt8]
          try dsimp only [Sum.elim_inl, Sum.elim_inr, jt2, jt3, jt4, jt5, jt6, jt7, jt8]
          refine ⟨?_, ?_, ?_, ?_, ?_⟩
          · exact PR 1 (by rw [if_neg (by omega)]) -- o39 e4.1
          · exact PM 1 -- o40 e4.2
          · exact PK 1 -- o41 e4.3
          · exact PF 1 -- o42 e4.4
          · exact PB 1 -- o43 e4.5
      · skip
        have r11 := r8; clear r8
        dsimp only [Sum.elim_inl, Sum.elim_inr] at r11
        try dsimp only [Sum.elim_inl, Sum.elim_inr, jt2, jt3, jt4, jt5, jt6, jt7, jt8] at r11
        obtain ⟨no8, g48⟩ := r11
        try simp (disch := omega) only [jst_eq, jst_ne, jst_ni, jI_i, jcmp_lt, jcmp_gt, w32_id, jcpy_out, Sum.elim_inl, Sum.elim_inr, jt2, jt3, jt4, jt5, jt6, jt7, jt8] at no8
        try simp (disch := omega) only [jst_eq, jst_ne, jst_ni, jI_i, jcmp_lt, jcmp_gt, w32_id, jcpy_out, Sum.elim_inl, Sum.elim_inr, jt2, jt3, jt4, jt5, jt6, jt7, jt8] at g48
        refine OK_jmr ?_
        have VI : ∃ j : Nat, psI W L a1 j ∧ enI W L a1 j 2 j (-1) ∧ o22 454 105 = j ∧ mkM o22 W L a1 j ∧ mdM o22 W L H T a1 k j := by assumption
        obtain ⟨j, j1, j2, j4, j5, j6⟩ := VI
        have G1 : (∀ a s, ¬ (a = 454 ∧ (s = 20 ∨ (93 ≤ s ∧ s ≤ 95) ∨ s = 101 ∨ (103 ≤ s ∧ s ≤ 106))) → ¬ ((a = 815 ∨ a = 816) ∧ 0 ≤ s) → o22 a s = h13 a s) ∧ bd20 o22 := by assumption
        refine OK_some ?_
        try dsimp only [Sum.elim_inl, Sum.elim_inr, jt2, jt3, jt4, jt5, jt6, jt7, jt8]
        try dsimp only [Sum.elim_inl, Sum.elim_inr, jt2, jt3, jt4, jt5, jt6, jt7, jt8]
        refine ⟨?_, ?_, ?_, ?_, ?_⟩
        · (rw [j4, G1.1 454 108 (by omega) (by omega), C13.2.1, G1.1 454 107 (by omega) (by omega), C13.1]; exact ⟨⟨j, j1, j2⟩, by omega⟩) -- o44 e5.1
        · (rw [j4, show ((j : Int)).toNat = j by omega]; exact j6) -- o45 e5.2
        · exact ⟨by rw [G1.1 _ _ (by omega) (by omega)]; exact C13.2.2.1, fun p p0 p1 => (j5.2 p p0 p1).1⟩ -- o46 e5.3
        · exact GF o22 (fun a s y1 y2 => G1.1 a s (by omega) y2) -- o47 e5.4
        · exact G1.2 -- o48 e5.5

