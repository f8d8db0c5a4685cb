/-! m: order of terms, whole; the search's state while its table grows -/
def cL (w d : Int) (o : Int → Int) (w' d' : Int) (o' : Int → Int) : Prop := w < w' ∨ (w = w' ∧ kyO d o < kyO d' o')
theorem hdC_n {h : AH} {E : EV} {A : AD} {t t' d n n' : Int} (x : hdC h E A t d n) (y : hdC h E A t' d n') : n = n' := by
  rcases x with x | ⟨j, x1, x2, x3, x4, x5, x6, x7, x8⟩ | ⟨j, x1, x2, x3, x4, x5, x6, x7, x8⟩ <;> rcases y with y | ⟨i, y1, y2, y3, y4, y5, y6, y7, y8⟩ | ⟨i, y1, y2, y3, y4, y5, y6, y7, y8⟩
  · omega
  · omega
  · omega
  · omega
  · omega
  · have e : i = j := by omega
    rw [e] at y4; omega
  · omega
  · have e : i = j := by omega
    rw [e] at y4; omega
  · have e : i = j := by omega
    rw [e] at y8; omega
theorem hdC_0 {h : AH} {E : EV} {A : AD} {t d n : Int} (x : hdC h E A t d n) (a : 0 ≤ A.1) : 0 ≤ d := by
  rcases x with x | ⟨j, x1, x2, x3, x4⟩ | ⟨j, x1, x2, x3, x4⟩ <;> omega
theorem okO_e {o o' : Int → Int} (a : okO o) (b : okO o') (n : nkO o = nkO o') (e : ∀ i, 0 ≤ i → i < nkO o → o i = o' i) (d : Int) : kyO d o = kyO d o' := by
  obtain ⟨a0, a1, a2, a3, a4⟩ := a
  obtain ⟨b0, b1, b2, b3, b4⟩ := b
  have e0 : o 0 = o' 0 := by
    by_cases y : o 0 < 0
    · by_cases z : o' 0 < 0
      · omega
      · have n0 : nkO o = 0 := if_pos y
        have : 1 ≤ nkO o' := by unfold nkO; rw [if_neg z]; split <;> (try split) <;> omega
        omega
    · exact e 0 (by decide) (by unfold nkO; rw [if_neg y]; split <;> (try split) <;> omega)
  have e1 : o 1 = o' 1 := by
    by_cases y : o 1 < 0
    · by_cases z : o' 1 < 0
      · omega
      · have n0 : nkO o ≤ 1 := by unfold nkO; split <;> (try rw [if_pos y]) <;> omega
        have : 2 ≤ nkO o' := by unfold nkO; rw [if_neg (by omega), if_neg z]; split <;> omega
        omega
    · exact e 1 (by decide) (by unfold nkO; rw [if_neg (by omega), if_neg y]; split <;> omega)
  have e2 : o 2 = o' 2 := by
    by_cases y : o 2 < 0
    · by_cases z : o' 2 < 0
      · omega
      · have n0 : nkO o ≤ 2 := by
          unfold nkO
          split
          · omega
          · split
            · omega
            · first | omega | (rw [if_pos y]; omega)
        have : 3 ≤ nkO o' := by unfold nkO; rw [if_neg (by omega), if_neg (by omega), if_neg z]; omega
        omega
    · exact e 2 (by decide) (by unfold nkO; rw [if_neg (by omega), if_neg (by omega), if_neg y]; omega)
  unfold kyO
  rw [e0, e1, e2]
theorem vX14_order_ {F : Int → Int → AH → Option (Int)} (a1 : Int) (a2 : Int) {h : AH} {E : EV} {A : AD} {T : TB} {tp w d w' d' : Int} {o o' : Int → Int} (hF : CO F h T tp w) (b : (0 ≤ a1 ∧ a1 < 8800 ∧ 0 ≤ a2 ∧ a2 < 8800) ∧ (0 ≤ w ∧ w ≤ 1000 ∧ 0 ≤ w' ∧ w' ≤ 1000)) (q : isX16 (h 454 38) ∧ pcM h A ∧ dpA A ∧ 0 ≤ A.1 ∧ A.1 ≤ 3) (x : ndC h E A T tp T.1 a1 w d o) (y : ndC h E A T tp T.1 a2 w' d' o') : OK (gX14_order_ F a1 a2 h) (fun v => (v < 0 ∧ cL w d o w' d' o') ∨ (v = 0 ∧ w = w' ∧ kyO d o = kyO d' o') ∨ (0 < v ∧ cL w' d' o' w d o)) := by
  have x1 := x.1
  have y1 := y.1
  have dx := hdC_0 x.2.2.2.1 q.2.2.2.1
  have dy := hdC_0 y.2.2.2.1 q.2.2.2.1
  unfold gX14_order_
  refine OK_jg (by (first | assumption | omega | ((try dsimp only [jt2, jt3, jt4]); first | omega | (simp (disch := omega) only [jst_eq, jst_ne, jst_ni, jst_o, jI_i, jcpy_out, w32_id, jdiv_nn, jshr_k, jand_255] <;> first | done | omega | assumption)) | (intros; simp (disch := omega) only [jst_eq, jst_ne, jst_ni, jst_o, jI_i, jcpy_out, w32_id, jdiv_nn, *] <;> first | done | omega) | (intros; simp (disch := omega) only [jst_eq, jst_ne, jst_ni, jst_o, jI_i, jcpy_out, w32_id, jdiv_nn] at * <;> first | done | omega | assumption) | (intros; first | rfl | (exfalso; omega) | ((repeat' apply And.intro) <;> first | assumption | rfl | omega | trivial)))) ?_ -- o1
  refine OK_jg (by (first | assumption | omega | ((try dsimp only [jt2, jt3, jt4]); first | omega | (simp (disch := omega) only [jst_eq, jst_ne, jst_ni, jst_o, jI_i, jcpy_out, w32_id, jdiv_nn, jshr_k, jand_255] <;> first | done | omega | assumption)) | (intros; simp (disch := omega) only [jst_eq, jst_ne, jst_ni, jst_o, jI_i, jcpy_out, w32_id, jdiv_nn, *] <;> first | done | omega) | (intros; simp (disch := omega) only [jst_eq, jst_ne, jst_ni, jst_o, jI_i, jcpy_out, w32_id, jdiv_nn] at * <;> first | done | omega | assumption) | (intros; first | rfl | (exfalso; omega) | ((repeat' apply And.intro) <;> first | assumption | rfl | omega | trivial)))) ?_ -- o2
  refine OK_if (fun c1 => ?_) (fun c1 => ?_)
  · skip
    try simp (disch := omega) only [jst_eq, jst_ne, jst_ni, jI_i, jcmp_lt, jcmp_gt, w32_id, jcpy_out, Sum.elim_inl, Sum.elim_inr, jt2, jt3, jt4, jt5, jt6, jt7, jt8] at c1
    have we : w = w' := by omega
    refine OK_jb (vX14_headOf (E := E) (A := A) _ (by exact q.1) (by exact q.2.1) (by exact q.2.2.1) (by (first | assumption | omega | ((try dsimp only [jt2, jt3, jt4]); first | omega | (simp (disch := omega) only [jst_eq, jst_ne, jst_ni, jst_o, jI_i, jcpy_out, w32_id, jdiv_nn, jshr_k, jand_255] <;> first | done | omega | assumption)) | (intros; simp (disch := omega) only [jst_eq, jst_ne, jst_ni, jst_o, jI_i, jcpy_out, w32_id, jdiv_nn, *] <;> first | done | omega) | (intros; simp (disch := omega) only [jst_eq, jst_ne, jst_ni, jst_o, jI_i, jcpy_out, w32_id, jdiv_nn] at * <;> first | done | omega | assumption) | (intros; first | rfl | (exfalso; omega) | ((repeat' apply And.intro) <;> first | assumption | rfl | omega | trivial)))) (by exact x.2.2.2.1) (by (first | assumption | omega | ((try dsimp only [jt2, jt3, jt4]); first | omega | (simp (disch := omega) only [jst_eq, jst_ne, jst_ni, jst_o, jI_i, jcpy_out, w32_id, jdiv_nn, jshr_k, jand_255] <;> first | done | omega | assumption)) | (intros; simp (disch := omega) only [jst_eq, jst_ne, jst_ni, jst_o, jI_i, jcpy_out, w32_id, jdiv_nn, *] <;> first | done | omega) | (intros; simp (disch := omega) only [jst_eq, jst_ne, jst_ni, jst_o, jI_i, jcpy_out, w32_id, jdiv_nn] at * <;> first | done | omega | assumption) | (intros; first | rfl | (exfalso; omega) | ((repeat' apply And.intro) <;> first | assumption | rfl | omega | trivial))))) (fun v3 r1 => ?_)
    try dsimp only [Sum.elim_inl, Sum.elim_inr, jt2, jt3, jt4, jt5, jt6, jt7, jt8] at r1
    have hv1 := r1
    clear r1
    try simp (disch := omega) only [jst_eq, jst_ne, jst_ni, jI_i, jcmp_lt, jcmp_gt, w32_id, jcpy_out, Sum.elim_inl, Sum.elim_inr, jt2, jt3, jt4, jt5, jt6, jt7, jt8] at hv1
    have v3e : v3 = hmA A d := by first | exact hv1 | assumption
    refine OK_jb (vX14_headOf (E := E) (A := A) _ (by exact q.1) (by exact q.2.1) (by exact q.2.2.1) (by (first | assumption | omega | ((try dsimp only [jt2, jt3, jt4]); first | omega | (simp (disch := omega) only [jst_eq, jst_ne, jst_ni, jst_o, jI_i, jcpy_out, w32_id, jdiv_nn, jshr_k, jand_255] <;> first | done | omega | assumption)) | (intros; simp (disch := omega) only [jst_eq, jst_ne, jst_ni, jst_o, jI_i, jcpy_out, w32_id, jdiv_nn, *] <;> first | done | omega) | (intros; simp (disch := omega) only [jst_eq, jst_ne, jst_ni, jst_o, jI_i, jcpy_out, w32_id, jdiv_nn] at * <;> first | done | omega | assumption) | (intros; first | rfl | (exfalso; omega) | ((repeat' apply And.intro) <;> first | assumption | rfl | omega | trivial)))) (by exact y.2.2.2.1) (by (first | assumption | omega | ((try dsimp only [jt2, jt3, jt4]); first | omega | (simp (disch := omega) only [jst_eq, jst_ne, jst_ni, jst_o, jI_i, jcpy_out, w32_id, jdiv_nn, jshr_k, jand_255] <;> first | done | omega | assumption)) | (intros; simp (disch := omega) only [jst_eq, jst_ne, jst_ni, jst_o, jI_i, jcpy_out, w32_id, jdiv_nn, *] <;> first | done | omega) | (intros; simp (disch := omega) only [jst_eq, jst_ne, jst_ni, jst_o, jI_i, jcpy_out, w32_id, jdiv_nn] at * <;> first | done | omega | assumption) | (intros; first | rfl | (exfalso; omega) | ((repeat' apply And.intro) <;> first | assumption | rfl | omega | trivial))))) (fun v5 r2 => ?_)
    try dsimp only [Sum.elim_inl, Sum.elim_inr, jt2, jt3, jt4, jt5, jt6, jt7, jt8] at r2
    have hv2 := r2
    clear r2
    try simp (disch := omega) only [jst_eq, jst_ne, jst_ni, jI_i, jcmp_lt, jcmp_gt, w32_id, jcpy_out, Sum.elim_inl, Sum.elim_inr, jt2, jt3, jt4, jt5, jt6, jt7, jt8] at hv2
    have v5e : v5 = hmA A d' := by first | exact hv2 | assumption
    have vd : v3 = v5 ↔ d = d' := by { rw [v3e, v5e]; unfold hmA; split <;> split <;> omega }
    have vl : v3 < v5 ↔ d < d' := by { rw [v3e, v5e]; unfold hmA; split <;> split <;> omega }
    have v3r : 0 ≤ v3 ∧ v3 < 100 := by { have u := x.2.2.2.1; rw [v3e]; unfold hmA; have np := q.2.1.2.2.1; rcases u with u | ⟨j, u1, u2, u3, u4⟩ | ⟨j, u1, u2, u3, u4⟩ <;> split <;> omega }
    have v5r : 0 ≤ v5 ∧ v5 < 100 := by { have u := y.2.2.2.1; rw [v5e]; unfold hmA; have np := q.2.1.2.2.1; rcases u with u | ⟨j, u1, u2, u3, u4⟩ | ⟨j, u1, u2, u3, u4⟩ <;> split <;> omega }
    refine OK_if (fun c2 => ?_) (fun c2 => ?_)
    · skip
      try simp (disch := omega) only [jst_eq, jst_ne, jst_ni, jI_i, jcmp_lt, jcmp_gt, w32_id, jcpy_out, Sum.elim_inl, Sum.elim_inr, jt2, jt3, jt4, jt5, jt6, jt7, jt8] at c2
      have de : d = d' := vd.1 c2
      have ne : nkO o = nkO o' := by { have u := x.2.2.2.1; rw [de] at u; exact hdC_n u y.2.2.2.1 }
      refine OK_jb (vX14_order_l59 (E := E) (A := A) (T := T) (tp := tp) (w := w) (d := d) (o := o) (o' := o') _ _ _ _ (by exact hF) (by (first | assumption | omega | ((try dsimp only [jt2, jt3, jt4]); first | omega | (simp (disch := omega) only [jst_eq, jst_ne, jst_ni, jst_o, jI_i, jcpy_out, w32_id, jdiv_nn, jshr_k, jand_255] <;> first | done | omega | assumption)) | (intros; simp (disch := omega) only [jst_eq, jst_ne, jst_ni, jst_o, jI_i, jcpy_out, w32_id, jdiv_nn, *] <;> first | done | omega) | (intros; simp (disch := omega) only [jst_eq, jst_ne, jst_ni, jst_o, jI_i, jcpy_out, w32_id, jdiv_nn] at * <;> first | done | omega | assumption) | (intros; first | rfl | (exfalso; omega) | ((repeat' apply And.intro) <;> first | assumption | rfl | omega | trivial)))) (by exact x) (by (rw [we, de]; exact y)) (by exact ne) (by exact ⟨rfl, rfl⟩)) (fun o7 r3 => ?_)
      try dsimp only [Sum.elim_inl, Sum.elim_inr, jt2, jt3, jt4, jt5, jt6, jt7, jt8] at r3
      have sg3 := r3
      clear r3
      try simp (disch := omega) only [jst_eq, jst_ne, jst_ni, jI_i, jcmp_lt, jcmp_gt, w32_id, jcpy_out, Sum.elim_inl, Sum.elim_inr, jt2, jt3, jt4, jt5, jt6, jt7, jt8] at sg3
      refine OK_some ?_
      try dsimp only [Sum.elim_inl, Sum.elim_inr, jt2, jt3, jt4, jt5, jt6, jt7, jt8]
      (rcases (by first | exact sg3 | assumption : (o7 < 0 ∧ lxO (nkO o) o o') ∨ (o7 = 0 ∧ ∀ i, 0 ≤ i → i < nkO o → o i = o' i) ∨ (0 < o7 ∧ lxO (nkO o) o' o)) with s | s | s; { exact Or.inl ⟨s.1, Or.inr ⟨we, by rw [← de]; exact lxO_k x.2.2.2.2 y.2.2.2.2 (nkO_r o).2 s.2⟩⟩ }; { exact Or.inr (Or.inl ⟨s.1, we, by rw [← de]; exact okO_e x.2.2.2.2 y.2.2.2.2 ne s.2 d⟩) }; { exact Or.inr (Or.inr ⟨s.1, Or.inr ⟨we.symm, by rw [← de]; exact lxO_k y.2.2.2.2 x.2.2.2.2 (nkO_r o).2 s.2⟩⟩) }) -- o21 e1
    · skip
      try simp (disch := omega) only [jst_eq, jst_ne, jst_ni, jI_i, jcmp_lt, jcmp_gt, w32_id, jcpy_out, Sum.elim_inl, Sum.elim_inr, jt2, jt3, jt4, jt5, jt6, jt7, jt8] at c2
      refine OK_some ?_
      try dsimp only [Sum.elim_inl, Sum.elim_inr, jt2, jt3, jt4, jt5, jt6, jt7, jt8]
      (have kx := x.2.2.2.2; have ky := y.2.2.2.2; unfold okO at kx ky; rw [w32_id (by omega) (by omega)]; unfold cL kyO; by_cases u : v3 < v5; { exact Or.inl ⟨by omega, Or.inr ⟨we, by have := vl.1 u; omega⟩⟩ }; { exact Or.inr (Or.inr ⟨by omega, Or.inr ⟨we.symm, by have := mt vl.2 u; have := mt vd.2 c2; omega⟩⟩) }) -- o22 e2
  · skip
    try simp (disch := omega) only [jst_eq, jst_ne, jst_ni, jI_i, jcmp_lt, jcmp_gt, w32_id, jcpy_out, Sum.elim_inl, Sum.elim_inr, jt2, jt3, jt4, jt5, jt6, jt7, jt8] at c1
    refine OK_some ?_
    try dsimp only [Sum.elim_inl, Sum.elim_inr, jt2, jt3, jt4, jt5, jt6, jt7, jt8]
    (rw [w32_id (by omega) (by omega)]; unfold cL; by_cases u : w < w'; { exact Or.inl ⟨by omega, Or.inl u⟩ }; { exact Or.inr (Or.inr ⟨by omega, Or.inl (by omega)⟩) }) -- o23 e3
theorem CO_D {h : AH} {E : EV} {A : AD} {T : TB} {tp : Int} (q : isX16 (h 454 38) ∧ pcM h A ∧ dpA A ∧ 0 ≤ A.1 ∧ A.1 ≤ 3) (tr : 0 ≤ tp ∧ tp + T.1 ≤ 8800) (so : soT T) (nd : ∀ a, 0 ≤ a → a < T.1 → 0 ≤ T.2.2.1 a ∧ T.2.2.1 a ≤ 1000 ∧ ndC h E A T tp T.1 (tp + a) (T.2.2.1 a) (T.2.2.2.1 a) (T.2.2.2.2.1 a)) : ∀ (D : Nat) (k : Int), k ≤ D → CO (gX14_orderD D) h T tp k
  | 0, k, l => fun x y x0 x1 y0 y1 wx wy => by have := (nd x x0 x1).1; omega
  | D + 1, k, l => fun x y x0 x1 y0 y1 wx wy => by
    have nx := nd x x0 x1
    have ny := nd y y0 y1
    refine OK_mono (vX14_order_ (F := gX14_orderD D) (tp + x) (tp + y) (E := E) (A := A) (T := T) (tp := tp) (w := T.2.2.1 x) (d := T.2.2.2.1 x) (w' := T.2.2.1 y) (d' := T.2.2.2.1 y) (o := T.2.2.2.2.1 x) (o' := T.2.2.2.2.1 y) (CO_D q tr so nd D _ (by omega)) ⟨⟨by omega, by omega, by omega, by omega⟩, nx.1, nx.2.1, ny.1, ny.2.1⟩ q nx.2.2 ny.2.2) (fun v s => ?_)
    have s1 : x < y → _ := fun u => so x y x0 u y1
    have s2 : y < x → _ := fun u => so y x y0 u x1
    unfold cL at s
    rcases (show x < y ∨ x = y ∨ y < x by omega) with u | u | u
    · have := s1 u; rcases s with s | s | s <;> omega
    · subst u; rcases s with s | s | s <;> omega
    · have := s2 u; rcases s with s | s | s <;> omega
/-- two terms, of a table's functions -/
theorem vX14_order {h : AH} {E : EV} {A : AD} {T : TB} {tp w d w' d' : Int} {o o' : Int → Int} (a1 a2 : Int) (q : isX16 (h 454 38) ∧ pcM h A ∧ dpA A ∧ 0 ≤ A.1 ∧ A.1 ≤ 3) (tr : 0 ≤ tp ∧ tp + T.1 ≤ 8800) (so : soT T) (nd : ∀ a, 0 ≤ a → a < T.1 → 0 ≤ T.2.2.1 a ∧ T.2.2.1 a ≤ 1000 ∧ ndC h E A T tp T.1 (tp + a) (T.2.2.1 a) (T.2.2.2.1 a) (T.2.2.2.2.1 a)) (b : (0 ≤ a1 ∧ a1 < 8800 ∧ 0 ≤ a2 ∧ a2 < 8800) ∧ (0 ≤ w ∧ w ≤ 39 ∧ 0 ≤ w' ∧ w' ≤ 39)) (x : ndC h E A T tp T.1 a1 w d o) (y : ndC h E A T tp T.1 a2 w' d' o') : OK (gX14_order a1 a2 h) (fun v => (v < 0 ∧ cL w d o w' d' o') ∨ (v = 0 ∧ w = w' ∧ kyO d o = kyO d' o') ∨ (0 < v ∧ cL w' d' o' w d o)) :=
  vX14_order_ (F := gX14_orderD 39) a1 a2 (CO_D q tr so nd 39 _ (by omega)) ⟨b.1, by omega⟩ q x y

