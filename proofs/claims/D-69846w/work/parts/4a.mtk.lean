/-! m: a term as it is read, the walk -/
theorem pT_nr {B : Int → Int} {n q q1 : Int} {sk : Bool} {d : Nat} (c0 : ¬ isVl B n q) (c : tO B n q = 1) (e : nx B n q = .inr q1) : pT B n sk (d + 1) q = if paren B n q1 then pC B n sk d (tV B n q) (tS B n q) q1 else .inr (.leaf (1, 0, tV B n q, tS B n q), q1) := by
  rw [pT_n c0 c, e]; rfl
theorem sg_nx {B : Int → Int} {n q q1 : Int} {r : PR} (e : nx B n q = .inr q1) : bdG (nx B n q) (fun _ => r) = r := by rw [e]; rfl
theorem vX14_takeTerm_j92 {F : Int → Int → AH → Option (Int × Int × AH)} (a1 : Int) (a2 : Int) (a3 : Int) (a4 : Int) (t1 : Int) {h : AH} {B : Int → Int} {n q q1 : Int} {d : Nat} {sk : Bool} (hB : ∀ i, 0 ≤ i → i < n → 0 ≤ B i ∧ B i < 256) (hF : CTM F B n sk d) (hd : a1 + 1 + d = 13 ∧ 0 ≤ a1 ∧ a2 = if sk = true then 1 else 0) (t : TM B n h) (m : MS B n q1 h) (tk : a3 = tS B n q ∧ a4 = tV B n q ∧ tO B n q = 1 ∧ ¬ isVl B n q ∧ nx B n q = .inr q1 ∧ q < q1 ∧ 0 ≤ q) (pr : (paren B n q1 ∧ t1 = 2) ∨ (¬ paren B n q1 ∧ t1 = 1)) (rm : 0 ≤ h 454 17 ∧ 2 * h 454 17 + (n - q) + 2 ≤ 17600) : OK (gX14_takeTerm_j92 F a1 a2 a3 a4 t1 h) (fun r => jt3 r fun t v h' => posM B n q h (pT B n sk (d + 1) q) t v h') := by
  have mn := m.2.2
  have tn := t.2.2.1
  unfold gX14_takeTerm_j92
  refine OK_jb2 (vX14_node _ _ _ (by (first | assumption | omega | ((try dsimp only [jt2, jt3, jt4]); first | omega | (simp (disch := omega) only [jst_eq, jst_ne, jst_ni, jst_o, jI_i, jcpy_out, w32_id, jdiv_nn, jshr_k, jand_255] <;> first | done | omega | assumption)) | (intros; simp (disch := omega) only [jst_eq, jst_ne, jst_ni, jst_o, jI_i, jcpy_out, w32_id, jdiv_nn, *] <;> first | done | omega) | (intros; simp (disch := omega) only [jst_eq, jst_ne, jst_ni, jst_o, jI_i, jcpy_out, w32_id, jdiv_nn] at * <;> first | done | omega | assumption) | (intros; first | rfl | (exfalso; omega) | ((repeat' apply And.intro) <;> first | assumption | rfl | omega | trivial))))) (fun v36 h37 r1 => ?_)
  try dsimp only [Sum.elim_inl, Sum.elim_inr, jt2, jt3, jt4, jt5, jt6, jt7, jt8] at r1
  obtain ⟨nv1, na1, fr1⟩ := r1
  try simp (disch := omega) only [jst_eq, jst_ne, jst_ni, jI_i, jcmp_lt, jcmp_gt, w32_id, jcpy_out, Sum.elim_inl, Sum.elim_inr, jt2, jt3, jt4, jt5, jt6, jt7, jt8] at nv1
  try simp (disch := omega) only [jst_eq, jst_ne, jst_ni, jI_i, jcmp_lt, jcmp_gt, w32_id, jcpy_out, Sum.elim_inl, Sum.elim_inr, jt2, jt3, jt4, jt5, jt6, jt7, jt8] at na1
  try simp (disch := omega) only [jst_eq, jst_ne, jst_ni, jI_i, jcmp_lt, jcmp_gt, w32_id, jcpy_out, Sum.elim_inl, Sum.elim_inr, jt2, jt3, jt4, jt5, jt6, jt7, jt8] at fr1
  refine OK_jg (by (first | assumption | omega | ((try dsimp only [jt2, jt3, jt4]); first | omega | (simp (disch := omega) only [jst_eq, jst_ne, jst_ni, jst_o, jI_i, jcpy_out, w32_id, jdiv_nn, jshr_k, jand_255] <;> first | done | omega | assumption)) | (intros; simp (disch := omega) only [jst_eq, jst_ne, jst_ni, jst_o, jI_i, jcpy_out, w32_id, jdiv_nn, *] <;> first | done | omega) | (intros; simp (disch := omega) only [jst_eq, jst_ne, jst_ni, jst_o, jI_i, jcpy_out, w32_id, jdiv_nn] at * <;> first | done | omega | assumption) | (intros; first | rfl | (exfalso; omega) | ((repeat' apply And.intro) <;> first | assumption | rfl | omega | trivial)))) ?_ -- o2
  refine OK_jl ?_
  refine OK_jl ?_
  have W : ∀ a s, ¬ (a = 454 ∧ s = 17) → ¬ (460 ≤ a ∧ a ≤ 470 ∧ a ≠ 464 ∧ s = h 454 17) → jst (jst h37 468 v36 a3) 470 v36 a4 a s = h a s := fun a s x y => by rw [jst_o (by omega), jst_o (by omega), fr1 a s x (by omega)]
  have N0 : jst (jst h37 468 v36 a3) 470 v36 a4 454 17 = h 454 17 + 1 := by { rw [jst_o (by omega), jst_o (by omega)]; exact nv1.2 }
  have A0 : jst (jst h37 468 v36 a3) 470 v36 a4 460 v36 = t1 ∧ jst (jst h37 468 v36 a3) 470 v36 a4 465 v36 = 0 ∧ jst (jst h37 468 v36 a3) 470 v36 a4 466 v36 = -1 ∧ jst (jst h37 468 v36 a3) 470 v36 a4 468 v36 = tS B n q ∧ jst (jst h37 468 v36 a3) 470 v36 a4 470 v36 = tV B n q := by { refine ⟨?_, ?_, ?_, ?_, ?_⟩; { (try simp (disch := omega) only [jst_eq, jst_ne, jst_ni, jI_i, jcmp_lt, jcmp_gt, w32_id, jcpy_out, Sum.elim_inl, Sum.elim_inr, jt2, jt3, jt4, jt5, jt6, jt7, jt8]); exact na1.1 }; { (try simp (disch := omega) only [jst_eq, jst_ne, jst_ni, jI_i, jcmp_lt, jcmp_gt, w32_id, jcpy_out, Sum.elim_inl, Sum.elim_inr, jt2, jt3, jt4, jt5, jt6, jt7, jt8]); exact na1.2.2.2.1 }; { (try simp (disch := omega) only [jst_eq, jst_ne, jst_ni, jI_i, jcmp_lt, jcmp_gt, w32_id, jcpy_out, Sum.elim_inl, Sum.elim_inr, jt2, jt3, jt4, jt5, jt6, jt7, jt8]); exact na1.2.2.2.2 }; { (try simp (disch := omega) only [jst_eq, jst_ne, jst_ni, jI_i, jcmp_lt, jcmp_gt, w32_id, jcpy_out, Sum.elim_inl, Sum.elim_inr, jt2, jt3, jt4, jt5, jt6, jt7, jt8]); exact tk.1 }; { (try simp (disch := omega) only [jst_eq, jst_ne, jst_ni, jI_i, jcmp_lt, jcmp_gt, w32_id, jcpy_out, Sum.elim_inl, Sum.elim_inr, jt2, jt3, jt4, jt5, jt6, jt7, jt8]); exact tk.2.1 } }
  generalize e39 : jst (jst h37 468 v36 a3) 470 v36 a4 = hh at *
  have vd := nv1.1
  have T0 : TM B n hh := TM_fr t (W _ _ (by omega) (by omega)) (fun s => W _ _ (by omega) (by omega))
  have M0 : MS B n q1 hh := MS_fr m (fun s s0 s1 => W _ _ (by omega) (by omega))
  have FW : frM (h 454 17) h hh := fun a s y1 y2 y3 y4 => W a s (by omega) (by omega)
  refine OK_if (fun c1 => ?_) (fun c1 => ?_)
  · skip
    try simp (disch := omega) only [jst_eq, jst_ne, jst_ni, jI_i, jcmp_lt, jcmp_gt, w32_id, jcpy_out, Sum.elim_inl, Sum.elim_inr, jt2, jt3, jt4, jt5, jt6, jt7, jt8] at c1
    have pp : paren B n q1 := by { rcases pr with y | y; { exact y.1 }; { omega } }
    refine OK_jb2 (vX14_nextS (B := B) (n := n) (q := q1) (by (first | assumption | omega | ((try dsimp only [jt2, jt3, jt4]); first | omega | (simp (disch := omega) only [jst_eq, jst_ne, jst_ni, jst_o, jI_i, jcpy_out, w32_id, jdiv_nn, jshr_k, jand_255] <;> first | done | omega | assumption)) | (intros; simp (disch := omega) only [jst_eq, jst_ne, jst_ni, jst_o, jI_i, jcpy_out, w32_id, jdiv_nn, *] <;> first | done | omega) | (intros; simp (disch := omega) only [jst_eq, jst_ne, jst_ni, jst_o, jI_i, jcpy_out, w32_id, jdiv_nn] at * <;> first | done | omega | assumption) | (intros; first | rfl | (exfalso; omega) | ((repeat' apply And.intro) <;> first | assumption | rfl | omega | trivial)))) (by (first | assumption | omega | ((try dsimp only [jt2, jt3, jt4]); first | omega | (simp (disch := omega) only [jst_eq, jst_ne, jst_ni, jst_o, jI_i, jcpy_out, w32_id, jdiv_nn, jshr_k, jand_255] <;> first | done | omega | assumption)) | (intros; simp (disch := omega) only [jst_eq, jst_ne, jst_ni, jst_o, jI_i, jcpy_out, w32_id, jdiv_nn, *] <;> first | done | omega) | (intros; simp (disch := omega) only [jst_eq, jst_ne, jst_ni, jst_o, jI_i, jcpy_out, w32_id, jdiv_nn] at * <;> first | done | omega | assumption) | (intros; first | rfl | (exfalso; omega) | ((repeat' apply And.intro) <;> first | assumption | rfl | omega | trivial)))) (by (first | assumption | omega | ((try dsimp only [jt2, jt3, jt4]); first | omega | (simp (disch := omega) only [jst_eq, jst_ne, jst_ni, jst_o, jI_i, jcpy_out, w32_id, jdiv_nn, jshr_k, jand_255] <;> first | done | omega | assumption)) | (intros; simp (disch := omega) only [jst_eq, jst_ne, jst_ni, jst_o, jI_i, jcpy_out, w32_id, jdiv_nn, *] <;> first | done | omega) | (intros; simp (disch := omega) only [jst_eq, jst_ne, jst_ni, jst_o, jI_i, jcpy_out, w32_id, jdiv_nn] at * <;> first | done | omega | assumption) | (intros; first | rfl | (exfalso; omega) | ((repeat' apply And.intro) <;> first | assumption | rfl | omega | trivial))))) (fun t42 h44 r2 => ?_)
    try dsimp only [Sum.elim_inl, Sum.elim_inr, jt2, jt3, jt4, jt5, jt6, jt7, jt8] at r2
    obtain ⟨nx2, fr2⟩ := r2
    try simp (disch := omega) only [jst_eq, jst_ne, jst_ni, jI_i, jcmp_lt, jcmp_gt, w32_id, jcpy_out, Sum.elim_inl, Sum.elim_inr, jt2, jt3, jt4, jt5, jt6, jt7, jt8] at nx2
    try simp (disch := omega) only [jst_eq, jst_ne, jst_ni, jI_i, jcmp_lt, jcmp_gt, w32_id, jcpy_out, Sum.elim_inl, Sum.elim_inr, jt2, jt3, jt4, jt5, jt6, jt7, jt8] at fr2
    have F4 : frM (h 454 17) h h44 := fun a s y1 y2 y3 y4 => by { have e : h44 454 17 = hh 454 17 := fr2 _ _ (by omega) (by omega); rw [fr2 a s (by omega) y2]; exact FW a s y1 y2 (by omega) (by omega) }
    have e17 : h44 454 17 = h 454 17 + 1 := by { rw [fr2 _ _ (by omega) (by omega)]; exact N0 }
    have T4 : TM B n h44 := TM_frM t F4
    have nd4 : ndM h44 v36 (2, 0, tV B n q, tS B n q) := ⟨fun z => absurd z (show ¬ (2 : Int) = 0 by decide), fun z => absurd z (show ¬ (2 : Int) = 1 by decide), fun _ => ⟨by rw [fr2 _ _ (by omega) (by omega)]; exact c1, by rw [fr2 _ _ (by omega) (by omega)]; exact A0.2.2.2.2⟩, fun z => absurd z (show ¬ (2 : Int) = 3 by decide), by rw [fr2 _ _ (by omega) (by omega)]; exact A0.2.2.2.1⟩
    have a465 : h44 465 v36 = 0 := by { rw [fr2 _ _ (by omega) (by omega)]; exact A0.2.1 }
    have a466 : h44 466 v36 = -1 := by { rw [fr2 _ _ (by omega) (by omega)]; exact A0.2.2.1 }
    refine OK_jq (fun c2 => ?_) (fun c2 => ?_)
    · skip
      obtain ⟨z, en, tz, mf⟩ := rM_l nx2 c2
      refine OK_some ?_
      try dsimp only [Sum.elim_inl, Sum.elim_inr, jt2, jt3, jt4, jt5, jt6, jt7, jt8]
      (rw [pT_nr tk.2.2.2.1 tk.2.2.1 tk.2.2.2.2.1, if_pos pp, pC_l (z := z) (by rw [en]; rfl)]; exact ⟨⟨F4, by omega, by omega⟩, tz, mf⟩) -- o6 e1
    · skip
      obtain ⟨q2, en, m2⟩ := rM_r nx2 c2
      have nr := nx_r hB m.2.2.1 m.2.2.2 m.2.1 (by have := pp.1; omega) en
      refine OK_jb (vX14_takeTerm_l132 (B := B) (n := n) (q2 := q2) (d := d) (sk := sk) (i := (2, 0, tV B n q, tS B n q)) _ _ _ (by (first | assumption | omega | ((try dsimp only [jt2, jt3, jt4]); first | omega | (simp (disch := omega) only [jst_eq, jst_ne, jst_ni, jst_o, jI_i, jcpy_out, w32_id, jdiv_nn, jshr_k, jand_255] <;> first | done | omega | assumption)) | (intros; simp (disch := omega) only [jst_eq, jst_ne, jst_ni, jst_o, jI_i, jcpy_out, w32_id, jdiv_nn, *] <;> first | done | omega) | (intros; simp (disch := omega) only [jst_eq, jst_ne, jst_ni, jst_o, jI_i, jcpy_out, w32_id, jdiv_nn] at * <;> first | done | omega | assumption) | (intros; first | rfl | (exfalso; omega) | ((repeat' apply And.intro) <;> first | assumption | rfl | omega | trivial)))) (by (first | assumption | omega | ((try dsimp only [jt2, jt3, jt4]); first | omega | (simp (disch := omega) only [jst_eq, jst_ne, jst_ni, jst_o, jI_i, jcpy_out, w32_id, jdiv_nn, jshr_k, jand_255] <;> first | done | omega | assumption)) | (intros; simp (disch := omega) only [jst_eq, jst_ne, jst_ni, jst_o, jI_i, jcpy_out, w32_id, jdiv_nn, *] <;> first | done | omega) | (intros; simp (disch := omega) only [jst_eq, jst_ne, jst_ni, jst_o, jI_i, jcpy_out, w32_id, jdiv_nn] at * <;> first | done | omega | assumption) | (intros; first | rfl | (exfalso; omega) | ((repeat' apply And.intro) <;> first | assumption | rfl | omega | trivial)))) (by (first | assumption | omega | ((try dsimp only [jt2, jt3, jt4]); first | omega | (simp (disch := omega) only [jst_eq, jst_ne, jst_ni, jst_o, jI_i, jcpy_out, w32_id, jdiv_nn, jshr_k, jand_255] <;> first | done | omega | assumption)) | (intros; simp (disch := omega) only [jst_eq, jst_ne, jst_ni, jst_o, jI_i, jcpy_out, w32_id, jdiv_nn, *] <;> first | done | omega) | (intros; simp (disch := omega) only [jst_eq, jst_ne, jst_ni, jst_o, jI_i, jcpy_out, w32_id, jdiv_nn] at * <;> first | done | omega | assumption) | (intros; first | rfl | (exfalso; omega) | ((repeat' apply And.intro) <;> first | assumption | rfl | omega | trivial)))) (by (first | assumption | omega | ((try dsimp only [jt2, jt3, jt4]); first | omega | (simp (disch := omega) only [jst_eq, jst_ne, jst_ni, jst_o, jI_i, jcpy_out, w32_id, jdiv_nn, jshr_k, jand_255] <;> first | done | omega | assumption)) | (intros; simp (disch := omega) only [jst_eq, jst_ne, jst_ni, jst_o, jI_i, jcpy_out, w32_id, jdiv_nn, *] <;> first | done | omega) | (intros; simp (disch := omega) only [jst_eq, jst_ne, jst_ni, jst_o, jI_i, jcpy_out, w32_id, jdiv_nn] at * <;> first | done | omega | assumption) | (intros; first | rfl | (exfalso; omega) | ((repeat' apply And.intro) <;> first | assumption | rfl | omega | trivial)))) (by (first | assumption | omega | ((try dsimp only [jt2, jt3, jt4]); first | omega | (simp (disch := omega) only [jst_eq, jst_ne, jst_ni, jst_o, jI_i, jcpy_out, w32_id, jdiv_nn, jshr_k, jand_255] <;> first | done | omega | assumption)) | (intros; simp (disch := omega) only [jst_eq, jst_ne, jst_ni, jst_o, jI_i, jcpy_out, w32_id, jdiv_nn, *] <;> first | done | omega) | (intros; simp (disch := omega) only [jst_eq, jst_ne, jst_ni, jst_o, jI_i, jcpy_out, w32_id, jdiv_nn] at * <;> first | done | omega | assumption) | (intros; first | rfl | (exfalso; omega) | ((repeat' apply And.intro) <;> first | assumption | rfl | omega | trivial)))) (by exact ⟨by omega, by omega, nd4, a465, a466⟩) (by (first | assumption | omega | ((try dsimp only [jt2, jt3, jt4]); first | omega | (simp (disch := omega) only [jst_eq, jst_ne, jst_ni, jst_o, jI_i, jcpy_out, w32_id, jdiv_nn, jshr_k, jand_255] <;> first | done | omega | assumption)) | (intros; simp (disch := omega) only [jst_eq, jst_ne, jst_ni, jst_o, jI_i, jcpy_out, w32_id, jdiv_nn, *] <;> first | done | omega) | (intros; simp (disch := omega) only [jst_eq, jst_ne, jst_ni, jst_o, jI_i, jcpy_out, w32_id, jdiv_nn] at * <;> first | done | omega | assumption) | (intros; first | rfl | (exfalso; omega) | ((repeat' apply And.intro) <;> first | assumption | rfl | omega | trivial))))) (fun o46 r3 => ?_)
      rcases o46 with o48 | o49
      · skip
        have r4 := r3; clear r3
        dsimp only [Sum.elim_inl, Sum.elim_inr] at r4
        try dsimp only [Sum.elim_inl, Sum.elim_inr, jt2, jt3, jt4, jt5, jt6, jt7, jt8] at r4
        have r3 := r4
        clear r4
        try simp (disch := omega) only [jst_eq, jst_ne, jst_ni, jI_i, jcmp_lt, jcmp_gt, w32_id, jcpy_out, Sum.elim_inl, Sum.elim_inr, jt2, jt3, jt4, jt5, jt6, jt7, jt8] at r3
        refine OK_jml ?_
        obtain ⟨l, q3, eL, S⟩ := r3
        have zl := szL_pos l
        have S17 := S.2.2.1
        have S2 := S.2.2.2.1
        have S3 := S.2.1
        have F8 : frM (h 454 17) h o48 := by { have := S.2.2.2.2.2.2.2; rw [vd] at this; exact frM_tr (Int.le_refl _) (by omega) F4 this }
        have S1n := S.1.2.2.2
        refine OK_jb2 (vX14_passSign (B := B) (n := n) (q := q3) _ (by exact TM_frM t F8) (by (first | assumption | omega | ((try dsimp only [jt2, jt3, jt4]); first | omega | (simp (disch := omega) only [jst_eq, jst_ne, jst_ni, jst_o, jI_i, jcpy_out, w32_id, jdiv_nn, jshr_k, jand_255] <;> first | done | omega | assumption)) | (intros; simp (disch := omega) only [jst_eq, jst_ne, jst_ni, jst_o, jI_i, jcpy_out, w32_id, jdiv_nn, *] <;> first | done | omega) | (intros; simp (disch := omega) only [jst_eq, jst_ne, jst_ni, jst_o, jI_i, jcpy_out, w32_id, jdiv_nn] at * <;> first | done | omega | assumption) | (intros; first | rfl | (exfalso; omega) | ((repeat' apply And.intro) <;> first | assumption | rfl | omega | trivial)))) (by exact S.1)) (fun t51 h53 r5 => ?_)
        try dsimp only [Sum.elim_inl, Sum.elim_inr, jt2, jt3, jt4, jt5, jt6, jt7, jt8] at r5
        obtain ⟨r4, fr4⟩ := r5
        try simp (disch := omega) only [jst_eq, jst_ne, jst_ni, jI_i, jcmp_lt, jcmp_gt, w32_id, jcpy_out, Sum.elim_inl, Sum.elim_inr, jt2, jt3, jt4, jt5, jt6, jt7, jt8] at r4
        try simp (disch := omega) only [jst_eq, jst_ne, jst_ni, jI_i, jcmp_lt, jcmp_gt, w32_id, jcpy_out, Sum.elim_inl, Sum.elim_inr, jt2, jt3, jt4, jt5, jt6, jt7, jt8] at fr4
        have e53 : h53 454 17 = o48 454 17 := fr4 _ _ (by omega) (by omega)
        have F53 : frM (h 454 17) h h53 := fun a s y1 y2 y3 y4 => by rw [fr4 a s (by omega) y2]; exact F8 a s y1 y2 (by omega) (by omega)
        have eP : pC B n sk d (tV B n q) (tS B n q) q1 = bdT (pW B n 41 q3) (fun q4 => .inr (spn (2, 0, tV B n q, tS B n q) l, q4)) := pC_r (by rw [en]; exact eL)
        refine OK_jq (fun c3 => ?_) (fun c3 => ?_)
        · skip
          refine OK_some ?_
          try dsimp only [Sum.elim_inl, Sum.elim_inr, jt2, jt3, jt4, jt5, jt6, jt7, jt8]
          (obtain ⟨z, ez, tz, mf⟩ := rM_l r4 c3; rw [pT_nr tk.2.2.2.1 tk.2.2.1 tk.2.2.2.2.1, if_pos pp, eP, ez]; exact ⟨⟨F53, by omega, by omega⟩, tz, mf⟩) -- o17 e2
        · skip
          refine OK_some ?_
          try dsimp only [Sum.elim_inl, Sum.elim_inr, jt2, jt3, jt4, jt5, jt6, jt7, jt8]
          obtain ⟨q4, ez, m4⟩ := rM_r r4 c3
          have q34 : q3 < q4 := by { have ez' := ez; unfold pW at ez'; by_cases c : tO B n q3 = 4 ∧ tV B n q3 = 41; { rw [if_pos c] at ez'; have := nx_r hB S.1.2.2.1 S.1.2.2.2 S.1.2.1 (by have := c.1; omega) ez'; omega }; { rw [if_neg c] at ez'; cases ez' } }
          have zs : sz (spn (2, 0, tV B n q, tS B n q) l) = szL l + 1 := sz_spn _ l
          (rw [pT_nr tk.2.2.2.1 tk.2.2.1 tk.2.2.2.2.1, if_pos pp, eP, ez]; refine ⟨⟨F53, by omega, by have := m4.2.2.2; omega⟩, rfl, m4, by omega, vd, by omega, by omega, ?_⟩; refine rawM_ag (h := o48) (lo := v36) (hi := v36 + 1 + szL l) ⟨fun a s _ _ _ _ _ _ => fr4 _ _ (by omega) (by omega), fun s _ _ => fr4 _ _ (by omega) (by omega), fun s _ _ => fr4 _ _ (by omega) (by omega)⟩ (Int.le_refl _) (Int.le_refl _) (by omega) (by omega) (by omega) (rawM_spn S.2.2.2.2.1 S.2.2.2.2.2.2.1 (by have := S.2.2.2.2.2.1; omega) rfl)) -- o18 e3
      · skip
        have r6 := r3; clear r3
        dsimp only [Sum.elim_inl, Sum.elim_inr] at r6
        refine OK_jmr ?_
        obtain ⟨y55, h56⟩ := o49
        refine OK_jt2 ?_
        try dsimp only [Sum.elim_inl, Sum.elim_inr, jt2, jt3, jt4, jt5, jt6, jt7, jt8] at r6
        have r5 := r6
        clear r6
        try simp (disch := omega) only [jst_eq, jst_ne, jst_ni, jI_i, jcmp_lt, jcmp_gt, w32_id, jcpy_out, Sum.elim_inl, Sum.elim_inr, jt2, jt3, jt4, jt5, jt6, jt7, jt8] at r5
        refine OK_jg (by (first | assumption | omega | ((try dsimp only [jt2, jt3, jt4]); first | omega | (simp (disch := omega) only [jst_eq, jst_ne, jst_ni, jst_o, jI_i, jcpy_out, w32_id, jdiv_nn, jshr_k, jand_255] <;> first | done | omega | assumption)) | (intros; simp (disch := omega) only [jst_eq, jst_ne, jst_ni, jst_o, jI_i, jcpy_out, w32_id, jdiv_nn, *] <;> first | done | omega) | (intros; simp (disch := omega) only [jst_eq, jst_ne, jst_ni, jst_o, jI_i, jcpy_out, w32_id, jdiv_nn] at * <;> first | done | omega | assumption) | (intros; first | rfl | (exfalso; omega) | ((repeat' apply And.intro) <;> first | assumption | rfl | omega | trivial)))) ?_ -- o19
        refine OK_some ?_
        try dsimp only [Sum.elim_inl, Sum.elim_inr, jt2, jt3, jt4, jt5, jt6, jt7, jt8]
        (obtain ⟨z, ez, tz, mf, f5, b1, b2⟩ := r5; rw [pT_nr tk.2.2.2.1 tk.2.2.1 tk.2.2.2.2.1, if_pos pp, pC_l (z := z) (by rw [en]; exact ez)]; rw [vd] at f5; exact ⟨⟨frM_tr (Int.le_refl _) (by omega) F4 f5, by omega, by omega⟩, tz, mf⟩) -- o20 e4
  · skip
    try simp (disch := omega) only [jst_eq, jst_ne, jst_ni, jI_i, jcmp_lt, jcmp_gt, w32_id, jcpy_out, Sum.elim_inl, Sum.elim_inr, jt2, jt3, jt4, jt5, jt6, jt7, jt8] at c1
    have pp : ¬ paren B n q1 := by { rcases pr with y | y; { omega }; { exact y.1 } }
    refine OK_some ?_
    try dsimp only [Sum.elim_inl, Sum.elim_inr, jt2, jt3, jt4, jt5, jt6, jt7, jt8]
    (rw [pT_nr tk.2.2.2.1 tk.2.2.1 tk.2.2.2.2.1, if_neg pp]; have s1 : sz (.leaf (1, 0, tV B n q, tS B n q)) = 1 := rfl; refine ⟨⟨FW, by omega, by omega⟩, rfl, M0, tk.2.2.2.2.2.1, vd, by omega, by omega, ⟨⟨fun z => absurd z (show ¬ (1 : Int) = 0 by decide), fun _ => ⟨by have := A0.1; rcases pr with y | y; { exact absurd y.1 pp }; { omega }, A0.2.2.2.2⟩, fun z => absurd z (show ¬ (1 : Int) = 2 by decide), fun z => absurd z (show ¬ (1 : Int) = 3 by decide), A0.2.2.2.1⟩, A0.2.1, A0.2.2.1⟩⟩) -- o21 e5

