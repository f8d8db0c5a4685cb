/-! m: a loop's terms are weighed, one behind the other -/
theorem kch_c {k : Int} (a : -1 ≤ k ∧ k ≤ 2) : (kch k = 115 ↔ k = 2) ∧ (kch k = 116 ↔ k = 1) ∧ (kch k = 32 ↔ k = -1) := by
  rcases (by omega : k = -1 ∨ k = 0 ∨ k = 1 ∨ k = 2) with rfl | rfl | rfl | rfl <;> decide
def skW (h : AH) (a : Int) (E : EV) (l : List TR) (n : Int) : Prop := ∀ i : Nat, i < 3 → (i : Int) < n → ∀ t, l[i]? = some t → h a i = kch (kdE E t) ∧ -1 ≤ kdE E t ∧ kdE E t ≤ 2
def frWg (a D X : Int) (h h' : AH) : Prop := ∀ b s, ¬ (b = 454 ∧ (s = 30 ∨ s = 31)) → ¬ (461 ≤ b ∧ b ≤ 463 ∧ D ≤ s ∧ s < X) → ¬ (b = a ∧ 0 ≤ s ∧ s < 3) → h' b s = h b s
theorem frWg_t {a D X : Int} {h h1 h2 : AH} (x : frWg a D X h h1) (y : frWg a D X h1 h2) : frWg a D X h h2 := fun b s y1 y2 y3 => (y b s y1 y2 y3).trans (x b s y1 y2 y3)
theorem wg138 {D : Int} {E : EV} {Rf : Int → TR} {l : List Int} {ts : List TR} {T : TR} {i1 i2 a5 v106 : Int} {h0 h h107 h' : AH} (LA : i1 = 805 ∨ i1 = 810) (rg : 0 ≤ D ∧ D + szL ts ≤ 5500 ∧ (ts.length : Int) = i2) (a0 : 0 ≤ a5 ∧ a5 < 4 ∧ a5 < i2) (eT : ts[a5.toNat]? = some T) (X1 : h (i1 + 3) a5 = D + szL (ts.take a5.toNat)) (q12 : MK h = min (MK h0) (fkF (EL E l) (ts.take a5.toNat) 0)) (q2 : lsW h (i1 + 3) D (EL E l) ts a5 ∧ skW h (i1 + 2) (EL E l) ts a5) (fr : frWg (i1 + 2) D (D + szL ts) h0 h) (fr1 : ∀ a s, ¬ (a = 454 ∧ (s = 30 ∨ s = 31)) → ¬ (461 ≤ a ∧ a ≤ 463 ∧ h (i1 + 3) a5 ≤ s ∧ s < h (i1 + 3) a5 + sz T) → h107 a s = h a s) (dn1 : dnM h107 (EL E l) T (h (i1 + 3) a5)) (vv1 : v106 = kch (kdE (EL E l) T) ∧ -1 ≤ kdE (EL E l) T ∧ kdE (EL E l) T ≤ 2) (w : wgM h107 E Rf l) (mk : MI h' ∧ MK h' = min (MK h) (ff1 (EL E l) T a5)) (sv : a5 < 3 → h' (i1 + 2) a5 = v106) (f : ∀ a s, ¬ (a = 454 ∧ (s = 30 ∨ s = 31)) → ¬ (a = i1 + 2 ∧ s = a5 ∧ a5 < 3) → h' a s = h107 a s) : (wgM h' E Rf l ∧ MK h' = min (MK h0) (fkF (EL E l) (ts.take (a5 + 1).toNat) 0)) ∧ (lsW h' (i1 + 3) D (EL E l) ts (a5 + 1) ∧ skW h' (i1 + 2) (EL E l) ts (a5 + 1)) ∧ frWg (i1 + 2) D (D + szL ts) h0 h' := by
  have SK2 := szL_tk ts a5.toNat T eT
  have S0 := szL_0 (ts.take a5.toNat)
  have st := sz_pos T
  have F : ∀ a s, ¬ (a = 454 ∧ (s = 30 ∨ s = 31)) → ¬ (461 ≤ a ∧ a ≤ 463 ∧ h (i1 + 3) a5 ≤ s ∧ s < h (i1 + 3) a5 + sz T) → ¬ ((a = 807 ∨ a = 812) ∧ 0 ≤ s ∧ s < 3) → h' a s = h a s := fun a s y1 y2 y3 => by
    rw [f a s y1 (by omega)]; exact fr1 a s y1 y2
  have DN : dnM h' (EL E l) T (h (i1 + 3) a5) := dnM_f dn1 (agM_x (d := 0) (z := 0) (fun a s y1 y2 y3 => f a s y1 (by omega)) (Or.inr (by omega))).2
  refine ⟨⟨wgM_k w mk.1 (fun a s y1 y2 y3 => f a s y1 (by omega)), ?_⟩, ⟨?_, ?_⟩, ?_⟩
  · rw [mk.2, q12, show (a5 + 1).toNat = a5.toNat + 1 by omega, fkF_tk eT, show ((a5.toNat : Nat) : Int) = a5 by omega]
    exact Int.min_assoc _ _ _
  · have x := q2.1
    rw [show a5 = ((a5.toNat : Nat) : Int) by omega] at x X1 DN F
    have y := lsW_s x (by omega) eT X1 DN F
    rw [show ((a5.toNat : Nat) : Int) + 1 = a5 + 1 by omega] at y
    exact y
  · intro i i3 il t e
    by_cases z : (i : Int) = a5
    · have zi : i = a5.toNat := by omega
      rw [zi, eT] at e
      cases e
      rw [z, sv (by omega)]; exact vv1
    · have y := q2.2 i i3 (by omega) t e
      rw [f (i1 + 2) i (by omega) (by omega), fr1 (i1 + 2) i (by omega) (by omega)]; exact y
  · exact frWg_t fr (fun b s y1 y2 y3 => by rw [f b s y1 (by omega)]; exact fr1 b s y1 (by omega))
theorem vX14_readLoop_l138 (i1 : Int) (i2 : Int) (i3 : Int) (i4 : Int) (a50 : Int) {h0 : AH} {D : Int} {E : EV} {Rf : Int → TR} {l : List Int} {ts : List TR} (lo : isLm i1) (wg : wgM h0 E Rf l) (ls : lsW h0 (i1 + 3) D (EL E l) ts 0) (rg : 0 ≤ D ∧ D + szL ts ≤ 5500 ∧ (ts.length : Int) = i2) (h1 : a50 = 0) : OK (gX14_readLoop_l138 i1 i2 i3 i4 a50 h0) (fun h' => (wgM h' E Rf l) ∧ (MK h' = min (MK h0) (fkF (EL E l) (ts.take 4) 0)) ∧ (lsW h' (i1 + 3) D (EL E l) ts i2 ∧ skW h' (i1 + 2) (EL E l) ts i2) ∧ (frWg (i1 + 2) D (D + szL ts) h0 h')) := by
  have LA : i1 = 805 ∨ i1 = 810 := lo
  have mr := MK_r wg.1
  unfold gX14_readLoop_l138
  refine OK_jit (I := (fun (s : Int × AH) => jt2 s fun a5 h => (0 ≤ a5 ∧ a5 ≤ 4 ∧ a5 ≤ i2) ∧ (wgM h E Rf l ∧ MK h = min (MK h0) (fkF (EL E l) (ts.take a5.toNat) 0)) ∧ (lsW h (i1 + 3) D (EL E l) ts a5 ∧ skW h (i1 + 2) (EL E l) ts a5) ∧ (frWg (i1 + 2) D (D + szL ts) h0 h))) (m := (fun (s : Int × AH) => jt2 s fun a5 h => (4 - a5).toNat)) ?_ ?_
  · intro s hs
    obtain ⟨a5, h⟩ := s
    dsimp only [Sum.elim_inl, Sum.elim_inr, jt2, jt3, jt4, jt5, jt6, jt7, jt8] at hs
    obtain ⟨q0, q1, q2, fr⟩ := hs
    unfold gX14_readLoop_b138
    refine OK_jt2 ?_
    obtain ⟨T, eT⟩ : ∃ T, (a5 < i2 → ts[a5.toNat]? = some T) := by { by_cases z : a5 < i2; { exact ⟨ts[a5.toNat]'(by omega), fun _ => List.getElem?_eq_getElem (by omega)⟩ }; { exact ⟨.leaf (0, 0, 0, 0), fun y => absurd y z⟩ } }
    have SZ := szL_tk0 ts a5.toNat
    have S0 := szL_0 (ts.take a5.toNat)
    refine OK_if (fun c1 => ?_) (fun c1 => ?_)
    · skip
      try simp (disch := omega) only [jst_eq, jst_ne, jst_ni, jI_i, jcmp_lt, jcmp_gt, w32_id, jcpy_out, Sum.elim_inl, Sum.elim_inr, jt2, jt3, jt4, jt5, jt6, jt7, jt8] at c1
      refine OK_ir ?_
      try dsimp only [Sum.elim_inl, Sum.elim_inr, jt2, jt3, jt4, jt5, jt6, jt7, jt8]
      refine ⟨?_, ?_, ?_, ?_⟩
      · exact q1.1 -- o1 e1.1
      · (rw [q1.2, show ts.take 4 = ts.take a5.toNat by (rw [List.take_of_length_le (show ts.length ≤ 4 by omega), List.take_of_length_le (by omega)])]) -- o2 e1.2
      · (rw [show i2 = a5 by omega]; exact ⟨q2.1, q2.2⟩) -- o3 e1.3
      · exact fr -- o4 e1.4
    · skip
      try simp (disch := omega) only [jst_eq, jst_ne, jst_ni, jI_i, jcmp_lt, jcmp_gt, w32_id, jcpy_out, Sum.elim_inl, Sum.elim_inr, jt2, jt3, jt4, jt5, jt6, jt7, jt8] at c1
      have eT := eT (by omega)
      refine OK_if (fun c2 => ?_) (fun c2 => ?_)
      · skip
        try simp (disch := omega) only [jst_eq, jst_ne, jst_ni, jI_i, jcmp_lt, jcmp_gt, w32_id, jcpy_out, Sum.elim_inl, Sum.elim_inr, jt2, jt3, jt4, jt5, jt6, jt7, jt8] at c2
        refine OK_ir ?_
        try dsimp only [Sum.elim_inl, Sum.elim_inr, jt2, jt3, jt4, jt5, jt6, jt7, jt8]
        refine ⟨?_, ?_, ?_, ?_⟩
        · exact q1.1 -- o5 e2.1
        · (rw [q1.2, show a5.toNat = 4 by omega]) -- o6 e2.2
        · (refine ⟨?_, ?_⟩; { intro i i4 t e; obtain ⟨x1, x2⟩ := q2.1 i i4 t e; have il : i < ts.length := (List.getElem?_eq_some_iff.mp e).1; rcases x2 with x2 | x2; { omega }; { exact ⟨x1, Or.inr ⟨by omega, x2.2⟩⟩ } }; { exact fun i i3 _ t e => q2.2 i i3 (by omega) t e }) -- o7 e2.3
        · exact fr -- o8 e2.4
      · skip
        try simp (disch := omega) only [jst_eq, jst_ne, jst_ni, jI_i, jcmp_lt, jcmp_gt, w32_id, jcpy_out, Sum.elim_inl, Sum.elim_inr, jt2, jt3, jt4, jt5, jt6, jt7, jt8] at c2
        obtain ⟨X1, X2⟩ := q2.1 a5.toNat (by omega) T eT
        have TW : toW h T (h (i1 + 3) a5.toNat) := by { rcases X2 with y | y; { exact y.2 }; { omega } }
        rw [show ((a5.toNat : Nat) : Int) = a5 by omega] at TW X1
        have PL := toW_p TW
        have SK2 := szL_tk ts a5.toNat T eT
        refine OK_jg (by (first | assumption | omega | ((try dsimp only [jt2, jt3, jt4]); first | omega | (simp (disch := omega) only [jst_eq, jst_ne, jst_ni, jst_o, jI_i, jcpy_out, w32_id, jdiv_nn, jshr_k, jand_255] <;> first | done | omega | assumption)) | (intros; simp (disch := omega) only [jst_eq, jst_ne, jst_ni, jst_o, jI_i, jcpy_out, w32_id, jdiv_nn, *] <;> first | done | omega) | (intros; simp (disch := omega) only [jst_eq, jst_ne, jst_ni, jst_o, jI_i, jcpy_out, w32_id, jdiv_nn] at * <;> first | done | omega | assumption) | (intros; first | rfl | (exfalso; omega) | ((repeat' apply And.intro) <;> first | assumption | rfl | omega | trivial)))) ?_ -- o9
        refine OK_jb2 (vX14_weighedW (E := E) (T := T) (Rf := Rf) (l := l) _ _ (by rfl) (by exact q1.1) (by exact TW) (by omega)) (fun v106 h107 r1 => ?_)
        try dsimp only [Sum.elim_inl, Sum.elim_inr, jt2, jt3, jt4, jt5, jt6, jt7, jt8] at r1
        obtain ⟨vv1, wg1, mk1, dn1, pl1, fr1⟩ := r1
        try simp (disch := omega) only [jst_eq, jst_ne, jst_ni, jI_i, jcmp_lt, jcmp_gt, w32_id, jcpy_out, Sum.elim_inl, Sum.elim_inr, jt2, jt3, jt4, jt5, jt6, jt7, jt8] at vv1
        try simp (disch := omega) only [jst_eq, jst_ne, jst_ni, jI_i, jcmp_lt, jcmp_gt, w32_id, jcpy_out, Sum.elim_inl, Sum.elim_inr, jt2, jt3, jt4, jt5, jt6, jt7, jt8] at wg1
        try simp (disch := omega) only [jst_eq, jst_ne, jst_ni, jI_i, jcmp_lt, jcmp_gt, w32_id, jcpy_out, Sum.elim_inl, Sum.elim_inr, jt2, jt3, jt4, jt5, jt6, jt7, jt8] at mk1
        try simp (disch := omega) only [jst_eq, jst_ne, jst_ni, jI_i, jcmp_lt, jcmp_gt, w32_id, jcpy_out, Sum.elim_inl, Sum.elim_inr, jt2, jt3, jt4, jt5, jt6, jt7, jt8] at dn1
        try simp (disch := omega) only [jst_eq, jst_ne, jst_ni, jI_i, jcmp_lt, jcmp_gt, w32_id, jcpy_out, Sum.elim_inl, Sum.elim_inr, jt2, jt3, jt4, jt5, jt6, jt7, jt8] at pl1
        try simp (disch := omega) only [jst_eq, jst_ne, jst_ni, jI_i, jcmp_lt, jcmp_gt, w32_id, jcpy_out, Sum.elim_inl, Sum.elim_inr, jt2, jt3, jt4, jt5, jt6, jt7, jt8] at fr1
        have E3 : h107 (i1 + 3) a5 = h (i1 + 3) a5 := fr1 _ _ (by omega) (by omega)
        have MI1 := wg1.1
        refine OK_if (fun c3 => ?_) (fun c3 => ?_)
        · skip
          try simp (disch := omega) only [jst_eq, jst_ne, jst_ni, jI_i, jcmp_lt, jcmp_gt, w32_id, jcpy_out, Sum.elim_inl, Sum.elim_inr, jt2, jt3, jt4, jt5, jt6, jt7, jt8] at c3
          have K3 := (kch_c vv1.2).1.mp (by omega)
          refine OK_jg (by (first | assumption | omega | ((try dsimp only [jt2, jt3, jt4]); first | omega | (simp (disch := omega) only [jst_eq, jst_ne, jst_ni, jst_o, jI_i, jcpy_out, w32_id, jdiv_nn, jshr_k, jand_255] <;> first | done | omega | assumption)) | (intros; simp (disch := omega) only [jst_eq, jst_ne, jst_ni, jst_o, jI_i, jcpy_out, w32_id, jdiv_nn, *] <;> first | done | omega) | (intros; simp (disch := omega) only [jst_eq, jst_ne, jst_ni, jst_o, jI_i, jcpy_out, w32_id, jdiv_nn] at * <;> first | done | omega | assumption) | (intros; first | rfl | (exfalso; omega) | ((repeat' apply And.intro) <;> first | assumption | rfl | omega | trivial)))) ?_ -- o14
          refine OK_jb (vX14_note _ _ (by (first | assumption | omega | ((try dsimp only [jt2, jt3, jt4]); first | omega | (simp (disch := omega) only [jst_eq, jst_ne, jst_ni, jst_o, jI_i, jcpy_out, w32_id, jdiv_nn, jshr_k, jand_255] <;> first | done | omega | assumption)) | (intros; simp (disch := omega) only [jst_eq, jst_ne, jst_ni, jst_o, jI_i, jcpy_out, w32_id, jdiv_nn, *] <;> first | done | omega) | (intros; simp (disch := omega) only [jst_eq, jst_ne, jst_ni, jst_o, jI_i, jcpy_out, w32_id, jdiv_nn] at * <;> first | done | omega | assumption) | (intros; first | rfl | (exfalso; omega) | ((repeat' apply And.intro) <;> first | assumption | rfl | omega | trivial)))) (by (rw [E3, pl1]; omega))) (fun h110 r2 => ?_)
          try dsimp only [Sum.elim_inl, Sum.elim_inr, jt2, jt3, jt4, jt5, jt6, jt7, jt8] at r2
          obtain ⟨m2, k2, fr2⟩ := r2
          try simp (disch := omega) only [jst_eq, jst_ne, jst_ni, jI_i, jcmp_lt, jcmp_gt, w32_id, jcpy_out, Sum.elim_inl, Sum.elim_inr, jt2, jt3, jt4, jt5, jt6, jt7, jt8] at m2
          try simp (disch := omega) only [jst_eq, jst_ne, jst_ni, jI_i, jcmp_lt, jcmp_gt, w32_id, jcpy_out, Sum.elim_inl, Sum.elim_inr, jt2, jt3, jt4, jt5, jt6, jt7, jt8] at k2
          try simp (disch := omega) only [jst_eq, jst_ne, jst_ni, jI_i, jcmp_lt, jcmp_gt, w32_id, jcpy_out, Sum.elim_inl, Sum.elim_inr, jt2, jt3, jt4, jt5, jt6, jt7, jt8] at fr2
          have W110 : wgM h110 E Rf l := wgM_k wg1 m2 (fun a s y1 _ _ => fr2 a s y1)
          have E4 : h110 (i1 + 3) a5 = h (i1 + 3) a5 := by { rw [fr2 _ _ (by omega)]; exact E3 }
          refine OK_mono (vX14_readLoop_j188_138 (P := plT T) _ _ _ _ _ _ (by (first | assumption | omega | ((try dsimp only [jt2, jt3, jt4]); first | omega | (simp (disch := omega) only [jst_eq, jst_ne, jst_ni, jst_o, jI_i, jcpy_out, w32_id, jdiv_nn, jshr_k, jand_255] <;> first | done | omega | assumption)) | (intros; simp (disch := omega) only [jst_eq, jst_ne, jst_ni, jst_o, jI_i, jcpy_out, w32_id, jdiv_nn, *] <;> first | done | omega) | (intros; simp (disch := omega) only [jst_eq, jst_ne, jst_ni, jst_o, jI_i, jcpy_out, w32_id, jdiv_nn] at * <;> first | done | omega | assumption) | (intros; first | rfl | (exfalso; omega) | ((repeat' apply And.intro) <;> first | assumption | rfl | omega | trivial)))) (by (first | assumption | omega | ((try dsimp only [jt2, jt3, jt4]); first | omega | (simp (disch := omega) only [jst_eq, jst_ne, jst_ni, jst_o, jI_i, jcpy_out, w32_id, jdiv_nn, jshr_k, jand_255] <;> first | done | omega | assumption)) | (intros; simp (disch := omega) only [jst_eq, jst_ne, jst_ni, jst_o, jI_i, jcpy_out, w32_id, jdiv_nn, *] <;> first | done | omega) | (intros; simp (disch := omega) only [jst_eq, jst_ne, jst_ni, jst_o, jI_i, jcpy_out, w32_id, jdiv_nn] at * <;> first | done | omega | assumption) | (intros; first | rfl | (exfalso; omega) | ((repeat' apply And.intro) <;> first | assumption | rfl | omega | trivial)))) (by (first | assumption | omega | ((try dsimp only [jt2, jt3, jt4]); first | omega | (simp (disch := omega) only [jst_eq, jst_ne, jst_ni, jst_o, jI_i, jcpy_out, w32_id, jdiv_nn, jshr_k, jand_255] <;> first | done | omega | assumption)) | (intros; simp (disch := omega) only [jst_eq, jst_ne, jst_ni, jst_o, jI_i, jcpy_out, w32_id, jdiv_nn, *] <;> first | done | omega) | (intros; simp (disch := omega) only [jst_eq, jst_ne, jst_ni, jst_o, jI_i, jcpy_out, w32_id, jdiv_nn] at * <;> first | done | omega | assumption) | (intros; first | rfl | (exfalso; omega) | ((repeat' apply And.intro) <;> first | assumption | rfl | omega | trivial)))) (by (rw [E4, fr2 _ _ (by omega)]; exact ⟨by omega, by omega, pl1, by omega, by omega⟩))) (fun r r3 => ?_)
          rcases r with r | r
          · skip
            have r4 := r3; clear r3; dsimp only [Sum.elim_inl, Sum.elim_inr] at r4
            obtain ⟨y1, y2⟩ := r
            try dsimp only [Sum.elim_inl, Sum.elim_inr, jt2, jt3, jt4, jt5, jt6, jt7, jt8] at r4
            obtain ⟨cc3, mi3, st3, fr3⟩ := r4
            try simp (disch := omega) only [jst_eq, jst_ne, jst_ni, jI_i, jcmp_lt, jcmp_gt, w32_id, jcpy_out, Sum.elim_inl, Sum.elim_inr, jt2, jt3, jt4, jt5, jt6, jt7, jt8] at cc3
            try simp (disch := omega) only [jst_eq, jst_ne, jst_ni, jI_i, jcmp_lt, jcmp_gt, w32_id, jcpy_out, Sum.elim_inl, Sum.elim_inr, jt2, jt3, jt4, jt5, jt6, jt7, jt8] at mi3
            try simp (disch := omega) only [jst_eq, jst_ne, jst_ni, jI_i, jcmp_lt, jcmp_gt, w32_id, jcpy_out, Sum.elim_inl, Sum.elim_inr, jt2, jt3, jt4, jt5, jt6, jt7, jt8] at st3
            try simp (disch := omega) only [jst_eq, jst_ne, jst_ni, jI_i, jcmp_lt, jcmp_gt, w32_id, jcpy_out, Sum.elim_inl, Sum.elim_inr, jt2, jt3, jt4, jt5, jt6, jt7, jt8] at fr3
            have STX := wg138 LA rg ⟨q0.1, by omega, by omega⟩ eT X1 q1.2 q2 fr fr1 dn1 vv1 wg1 ⟨mi3.1, by (rw [mi3.2, k2, E3, pl1, mk1]; unfold ff1; rw [if_pos K3]; by_cases z : a5 = 3; { rw [if_pos z]; omega }; { rw [if_neg z]; omega })⟩ st3 (fun a s y1 y2 => (by rw [fr3 a s y1 y2]; exact fr2 a s y1))
            try dsimp only [Sum.elim_inl, Sum.elim_inr, jt2, jt3, jt4, jt5, jt6, jt7, jt8]
            refine ⟨?_, ?_⟩
            · try dsimp only [Sum.elim_inl, Sum.elim_inr, jt2, jt3, jt4, jt5, jt6, jt7, jt8]
              refine ⟨?_, ?_, ?_, ?_⟩
              · omega -- o21 e3i.1
              · (rw [cc3]; exact STX.1) -- o22 e3i.2
              · (rw [cc3]; exact STX.2.1) -- o23 e3i.3
              · exact STX.2.2 -- o24 e3i.4
            · omega -- o25 e3m
          · skip
            have r5 := r3; clear r3; dsimp only [Sum.elim_inl, Sum.elim_inr] at r5
            try dsimp only [Sum.elim_inl, Sum.elim_inr, jt2, jt3, jt4, jt5, jt6, jt7, jt8] at r5
            have no4 := r5
            clear r5
            try simp (disch := omega) only [jst_eq, jst_ne, jst_ni, jI_i, jcmp_lt, jcmp_gt, w32_id, jcpy_out, Sum.elim_inl, Sum.elim_inr, jt2, jt3, jt4, jt5, jt6, jt7, jt8] at no4
            try dsimp only [Sum.elim_inl, Sum.elim_inr, jt2, jt3, jt4, jt5, jt6, jt7, jt8]
            exact absurd no4 (by decide) -- e4
        · skip
          try simp (disch := omega) only [jst_eq, jst_ne, jst_ni, jI_i, jcmp_lt, jcmp_gt, w32_id, jcpy_out, Sum.elim_inl, Sum.elim_inr, jt2, jt3, jt4, jt5, jt6, jt7, jt8] at c3
          have K3 : ¬ kdE (EL E l) T = 2 := fun z => c3 (by rw [vv1.1]; exact (kch_c vv1.2).1.mpr z)
          refine OK_mono (vX14_readLoop_j188_138 (P := plT T) _ _ _ _ _ _ (by (first | assumption | omega | ((try dsimp only [jt2, jt3, jt4]); first | omega | (simp (disch := omega) only [jst_eq, jst_ne, jst_ni, jst_o, jI_i, jcpy_out, w32_id, jdiv_nn, jshr_k, jand_255] <;> first | done | omega | assumption)) | (intros; simp (disch := omega) only [jst_eq, jst_ne, jst_ni, jst_o, jI_i, jcpy_out, w32_id, jdiv_nn, *] <;> first | done | omega) | (intros; simp (disch := omega) only [jst_eq, jst_ne, jst_ni, jst_o, jI_i, jcpy_out, w32_id, jdiv_nn] at * <;> first | done | omega | assumption) | (intros; first | rfl | (exfalso; omega) | ((repeat' apply And.intro) <;> first | assumption | rfl | omega | trivial)))) (by (first | assumption | omega | ((try dsimp only [jt2, jt3, jt4]); first | omega | (simp (disch := omega) only [jst_eq, jst_ne, jst_ni, jst_o, jI_i, jcpy_out, w32_id, jdiv_nn, jshr_k, jand_255] <;> first | done | omega | assumption)) | (intros; simp (disch := omega) only [jst_eq, jst_ne, jst_ni, jst_o, jI_i, jcpy_out, w32_id, jdiv_nn, *] <;> first | done | omega) | (intros; simp (disch := omega) only [jst_eq, jst_ne, jst_ni, jst_o, jI_i, jcpy_out, w32_id, jdiv_nn] at * <;> first | done | omega | assumption) | (intros; first | rfl | (exfalso; omega) | ((repeat' apply And.intro) <;> first | assumption | rfl | omega | trivial)))) (by (first | assumption | omega | ((try dsimp only [jt2, jt3, jt4]); first | omega | (simp (disch := omega) only [jst_eq, jst_ne, jst_ni, jst_o, jI_i, jcpy_out, w32_id, jdiv_nn, jshr_k, jand_255] <;> first | done | omega | assumption)) | (intros; simp (disch := omega) only [jst_eq, jst_ne, jst_ni, jst_o, jI_i, jcpy_out, w32_id, jdiv_nn, *] <;> first | done | omega) | (intros; simp (disch := omega) only [jst_eq, jst_ne, jst_ni, jst_o, jI_i, jcpy_out, w32_id, jdiv_nn] at * <;> first | done | omega | assumption) | (intros; first | rfl | (exfalso; omega) | ((repeat' apply And.intro) <;> first | assumption | rfl | omega | trivial)))) (by (rw [E3]; exact ⟨by omega, by omega, pl1, by omega, by omega⟩))) (fun r r6 => ?_)
          rcases r with r | r
          · skip
            have r7 := r6; clear r6; dsimp only [Sum.elim_inl, Sum.elim_inr] at r7
            obtain ⟨y3, y4⟩ := r
            try dsimp only [Sum.elim_inl, Sum.elim_inr, jt2, jt3, jt4, jt5, jt6, jt7, jt8] at r7
            obtain ⟨cc5, mi5, st5, fr5⟩ := r7
            try simp (disch := omega) only [jst_eq, jst_ne, jst_ni, jI_i, jcmp_lt, jcmp_gt, w32_id, jcpy_out, Sum.elim_inl, Sum.elim_inr, jt2, jt3, jt4, jt5, jt6, jt7, jt8] at cc5
            try simp (disch := omega) only [jst_eq, jst_ne, jst_ni, jI_i, jcmp_lt, jcmp_gt, w32_id, jcpy_out, Sum.elim_inl, Sum.elim_inr, jt2, jt3, jt4, jt5, jt6, jt7, jt8] at mi5
            try simp (disch := omega) only [jst_eq, jst_ne, jst_ni, jI_i, jcmp_lt, jcmp_gt, w32_id, jcpy_out, Sum.elim_inl, Sum.elim_inr, jt2, jt3, jt4, jt5, jt6, jt7, jt8] at st5
            try simp (disch := omega) only [jst_eq, jst_ne, jst_ni, jI_i, jcmp_lt, jcmp_gt, w32_id, jcpy_out, Sum.elim_inl, Sum.elim_inr, jt2, jt3, jt4, jt5, jt6, jt7, jt8] at fr5
            have STX := wg138 LA rg ⟨q0.1, by omega, by omega⟩ eT X1 q1.2 q2 fr fr1 dn1 vv1 wg1 ⟨mi5.1, by (rw [mi5.2, mk1]; unfold ff1; rw [if_neg K3]; by_cases z : a5 = 3; { rw [if_pos z]; omega }; { rw [if_neg z]; omega })⟩ st5 fr5
            try dsimp only [Sum.elim_inl, Sum.elim_inr, jt2, jt3, jt4, jt5, jt6, jt7, jt8]
            refine ⟨?_, ?_⟩
            · try dsimp only [Sum.elim_inl, Sum.elim_inr, jt2, jt3, jt4, jt5, jt6, jt7, jt8]
              refine ⟨?_, ?_, ?_, ?_⟩
              · omega -- o30 e5i.1
              · (rw [cc5]; exact STX.1) -- o31 e5i.2
              · (rw [cc5]; exact STX.2.1) -- o32 e5i.3
              · exact STX.2.2 -- o33 e5i.4
            · omega -- o34 e5m
          · skip
            have r8 := r6; clear r6; dsimp only [Sum.elim_inl, Sum.elim_inr] at r8
            try dsimp only [Sum.elim_inl, Sum.elim_inr, jt2, jt3, jt4, jt5, jt6, jt7, jt8] at r8
            have no6 := r8
            clear r8
            try simp (disch := omega) only [jst_eq, jst_ne, jst_ni, jI_i, jcmp_lt, jcmp_gt, w32_id, jcpy_out, Sum.elim_inl, Sum.elim_inr, jt2, jt3, jt4, jt5, jt6, jt7, jt8] at no6
            try dsimp only [Sum.elim_inl, Sum.elim_inr, jt2, jt3, jt4, jt5, jt6, jt7, jt8]
            exact absurd no6 (by decide) -- e6
  · try dsimp only [Sum.elim_inl, Sum.elim_inr, jt2, jt3, jt4, jt5, jt6, jt7, jt8]
    refine ⟨?_, ?_, ?_, ?_⟩
    · (first | assumption | omega | ((try dsimp only [jt2, jt3, jt4]); first | omega | (simp (disch := omega) only [jst_eq, jst_ne, jst_ni, jst_o, jI_i, jcpy_out, w32_id, jdiv_nn, jshr_k, jand_255] <;> first | done | omega | assumption)) | (intros; simp (disch := omega) only [jst_eq, jst_ne, jst_ni, jst_o, jI_i, jcpy_out, w32_id, jdiv_nn, *] <;> first | done | omega) | (intros; simp (disch := omega) only [jst_eq, jst_ne, jst_ni, jst_o, jI_i, jcpy_out, w32_id, jdiv_nn] at * <;> first | done | omega | assumption) | (intros; first | rfl | (exfalso; omega) | ((repeat' apply And.intro) <;> first | assumption | rfl | omega | trivial))) -- o35 init.1
    · (rw [h1]; exact ⟨wg, by (show MK h0 = min (MK h0) 1000000; omega)⟩) -- o36 init.2
    · (rw [h1]; exact ⟨ls, fun i _ z => by omega⟩) -- o37 init.3
    · exact fun _ _ _ _ _ => rfl -- o38 init.4
theorem wg308 {D : Int} {E : EV} {Rf : Int → TR} {l sk : List Int} {gs : List TR} {T : TR} {i1 i4 a6 : Int} {h0 h h96 h' : AH} (LA : i1 = 805 ∨ i1 = 810) (rg : 0 ≤ D ∧ D + szL gs ≤ 5500 ∧ (gs.length : Int) = i4) (a0 : 0 ≤ a6 ∧ a6 < (sk.length : Int) ∧ a6 < i4 ∧ sk.length ≤ 3) (eT : gs[a6.toNat]? = some T) (X1 : h (i1 + 4) a6 = D + szL (gs.take a6.toNat)) (q12 : MK h = min (MK h0) (fkG (EL E l) sk (gs.take a6.toNat) 0)) (q2 : lsW h (i1 + 4) D (EL E l) gs a6) (fr : ∀ b s, ¬ (b = 454 ∧ (s = 30 ∨ s = 31)) → ¬ (461 ≤ b ∧ b ≤ 463 ∧ D ≤ s ∧ s < D + szL gs) → h b s = h0 b s) (fr1 : ∀ a s, ¬ (a = 454 ∧ (s = 30 ∨ s = 31)) → ¬ (461 ≤ a ∧ a ≤ 463 ∧ h (i1 + 4) a6 ≤ s ∧ s < h (i1 + 4) a6 + sz T) → h96 a s = h a s) (dn1 : dnM h96 (EL E l) T (h (i1 + 4) a6)) (w : wgM h96 E Rf l) (mk : MI h' ∧ MK h' = min (MK h) (keyE (EL E l) (kL sk a6) T)) (f : ∀ a s, ¬ (a = 454 ∧ (s = 30 ∨ s = 31)) → h' a s = h96 a s) : (wgM h' E Rf l ∧ MK h' = min (MK h0) (fkG (EL E l) sk (gs.take (a6 + 1).toNat) 0)) ∧ lsW h' (i1 + 4) D (EL E l) gs (a6 + 1) ∧ ∀ b s, ¬ (b = 454 ∧ (s = 30 ∨ s = 31)) → ¬ (461 ≤ b ∧ b ≤ 463 ∧ D ≤ s ∧ s < D + szL gs) → h' b s = h0 b s := by
  have SK2 := szL_tk gs a6.toNat T eT
  have S0 := szL_0 (gs.take a6.toNat)
  have st := sz_pos T
  have WN : wnG sk a6 = kL sk a6 := by unfold wnG; rw [if_pos (by omega)]
  have F : ∀ a s, ¬ (a = 454 ∧ (s = 30 ∨ s = 31)) → ¬ (461 ≤ a ∧ a ≤ 463 ∧ h (i1 + 4) a6 ≤ s ∧ s < h (i1 + 4) a6 + sz T) → ¬ ((a = 807 ∨ a = 812) ∧ 0 ≤ s ∧ s < 3) → h' a s = h a s := fun a s y1 y2 y3 => by
    rw [f a s y1]; exact fr1 a s y1 y2
  have DN : dnM h' (EL E l) T (h (i1 + 4) a6) := dnM_f dn1 (agM_x (d := 0) (z := 0) (fun a s y1 y2 y3 => f a s y1) (Or.inr (by omega))).2
  refine ⟨⟨wgM_k w mk.1 (fun a s y1 y2 y3 => f a s y1), ?_⟩, ?_, ?_⟩
  · rw [mk.2, q12, show (a6 + 1).toNat = a6.toNat + 1 by omega, fkG_tk eT, show ((a6.toNat : Nat) : Int) = a6 by omega, WN]
    exact Int.min_assoc _ _ _
  · have x := q2
    rw [show a6 = ((a6.toNat : Nat) : Int) by omega] at x X1 DN F
    have y := lsW_s x (by omega) eT X1 DN F
    rw [show ((a6.toNat : Nat) : Int) + 1 = a6 + 1 by omega] at y
    exact y
  · exact fun b s y1 y2 => by rw [f b s y1, fr1 b s y1 (by omega)]; exact fr b s y1 y2
theorem key0 {E : EV} {w K : Int} {T : TR} (k : K ≤ 1000000) : min K (keyE E w T) = min (min K (keyE E (-1) T)) (if w ≠ -1 ∧ kdE E T ≠ -1 ∧ kdE E T ≠ w then plT T * 8 + 3 else 1000000) := by
  unfold keyE toE
  rw [if_neg (show ¬ ((-1 : Int) ≠ -1 ∧ kdE E T ≠ -1 ∧ kdE E T ≠ -1) from fun z => z.1 rfl)]
  show min K (min (fkE E T 0 0) (min (if w ≠ -1 ∧ kdE E T ≠ -1 ∧ kdE E T ≠ w then plT T * 8 + 3 else 1000000) (if 40 < wtE E T then (inf T).2.2.2 * 8 + 5 else 1000000))) = _
  generalize (if w ≠ -1 ∧ kdE E T ≠ -1 ∧ kdE E T ≠ w then plT T * 8 + 3 else 1000000) = x
  generalize (if 40 < wtE E T then (inf T).2.2.2 * 8 + 5 else 1000000) = y
  omega
theorem vX14_readLoop_l308 (i1 : Int) (i4 : Int) (a60 : Int) {h0 : AH} {D : Int} {E : EV} {Rf : Int → TR} {l sk : List Int} {gs : List TR} (lo : isLm i1) (wg : wgM h0 E Rf l) (ls : lsW h0 (i1 + 4) D (EL E l) gs 0) (rg : 0 ≤ D ∧ D + szL gs ≤ 5500 ∧ (gs.length : Int) = i4) (kk : h0 i1 4 = (sk.length : Int) ∧ sk.length ≤ 3 ∧ ∀ k, 0 ≤ k → k < (sk.length : Int) → h0 (i1 + 2) k = kch (kL sk k) ∧ -1 ≤ kL sk k ∧ kL sk k ≤ 2) (h1 : a60 = 0) : OK (gX14_readLoop_l308 i1 i4 a60 h0) (fun h' => (wgM h' E Rf l) ∧ (MK h' = min (MK h0) (fkG (EL E l) sk (gs.take sk.length) 0)) ∧ (∀ i : Nat, i < 4 → ∀ t, gs[i]? = some t → i < sk.length → h' (i1 + 4) i = D + szL (gs.take i) ∧ dnM h' (EL E l) t (h' (i1 + 4) i)) ∧ (∀ b s, ¬ (b = 454 ∧ (s = 30 ∨ s = 31)) → ¬ (461 ≤ b ∧ b ≤ 463 ∧ D ≤ s ∧ s < D + szL gs) → h' b s = h0 b s)) := by
  have LA : i1 = 805 ∨ i1 = 810 := lo
  have mr := MK_r wg.1
  unfold gX14_readLoop_l308
  refine OK_jit (I := (fun (s : Int × AH) => jt2 s fun a6 h => (0 ≤ a6 ∧ a6 ≤ (sk.length : Int) ∧ a6 ≤ i4) ∧ (wgM h E Rf l ∧ MK h = min (MK h0) (fkG (EL E l) sk (gs.take a6.toNat) 0)) ∧ (lsW h (i1 + 4) D (EL E l) gs a6) ∧ (∀ b s, ¬ (b = 454 ∧ (s = 30 ∨ s = 31)) → ¬ (461 ≤ b ∧ b ≤ 463 ∧ D ≤ s ∧ s < D + szL gs) → h b s = h0 b s))) (m := (fun (s : Int × AH) => jt2 s fun a6 h => (4 - a6).toNat)) ?_ ?_
  · intro s hs
    obtain ⟨a6, h⟩ := s
    dsimp only [Sum.elim_inl, Sum.elim_inr, jt2, jt3, jt4, jt5, jt6, jt7, jt8] at hs
    obtain ⟨q0, q1, q2, fr⟩ := hs
    unfold gX14_readLoop_b308
    refine OK_jt2 ?_
    have K4 : h i1 4 = (sk.length : Int) ∧ ∀ k, h (i1 + 2) k = h0 (i1 + 2) k := ⟨by { rw [fr _ _ (by omega) (by omega)]; exact kk.1 }, fun k => fr _ _ (by omega) (by omega)⟩
    obtain ⟨T, eT⟩ : ∃ T, (a6 < i4 → gs[a6.toNat]? = some T) := by { by_cases z : a6 < i4; { exact ⟨gs[a6.toNat]'(by omega), fun _ => List.getElem?_eq_getElem (by omega)⟩ }; { exact ⟨.leaf (0, 0, 0, 0), fun y => absurd y z⟩ } }
    have SZ := szL_tk0 gs a6.toNat
    have S0 := szL_0 (gs.take a6.toNat)
    refine OK_if (fun c1 => ?_) (fun c1 => ?_)
    · skip
      try simp (disch := omega) only [jst_eq, jst_ne, jst_ni, jI_i, jcmp_lt, jcmp_gt, w32_id, jcpy_out, Sum.elim_inl, Sum.elim_inr, jt2, jt3, jt4, jt5, jt6, jt7, jt8] at c1
      refine OK_ir ?_
      try dsimp only [Sum.elim_inl, Sum.elim_inr, jt2, jt3, jt4, jt5, jt6, jt7, jt8]
      refine ⟨?_, ?_, ?_, ?_⟩
      · exact q1.1 -- o1 e1.1
      · (rw [q1.2, show gs.take sk.length = gs.take a6.toNat by (rw [List.take_of_length_le (show gs.length ≤ sk.length by omega), List.take_of_length_le (by omega)])]) -- o2 e1.2
      · (intro i i4 t e it; have il := (List.getElem?_eq_some_iff.mp e).1; obtain ⟨x1, x2⟩ := q2 i i4 t e; refine ⟨x1, ?_⟩; rcases x2 with y | y; { omega }; { exact y.2 }) -- o3 e1.3
      · exact fr -- o4 e1.4
    · skip
      try simp (disch := omega) only [jst_eq, jst_ne, jst_ni, jI_i, jcmp_lt, jcmp_gt, w32_id, jcpy_out, Sum.elim_inl, Sum.elim_inr, jt2, jt3, jt4, jt5, jt6, jt7, jt8] at c1
      have eT := eT (by omega)
      refine OK_if (fun c2 => ?_) (fun c2 => ?_)
      · skip
        try simp (disch := omega) only [jst_eq, jst_ne, jst_ni, jI_i, jcmp_lt, jcmp_gt, w32_id, jcpy_out, Sum.elim_inl, Sum.elim_inr, jt2, jt3, jt4, jt5, jt6, jt7, jt8] at c2
        refine OK_ir ?_
        try dsimp only [Sum.elim_inl, Sum.elim_inr, jt2, jt3, jt4, jt5, jt6, jt7, jt8]
        refine ⟨?_, ?_, ?_, ?_⟩
        · exact q1.1 -- o5 e2.1
        · (rw [q1.2, show a6.toNat = sk.length by omega]) -- o6 e2.2
        · (intro i i4 t e it; have il := (List.getElem?_eq_some_iff.mp e).1; obtain ⟨x1, x2⟩ := q2 i i4 t e; refine ⟨x1, ?_⟩; rcases x2 with y | y; { omega }; { exact y.2 }) -- o7 e2.3
        · exact fr -- o8 e2.4
      · skip
        try simp (disch := omega) only [jst_eq, jst_ne, jst_ni, jI_i, jcmp_lt, jcmp_gt, w32_id, jcpy_out, Sum.elim_inl, Sum.elim_inr, jt2, jt3, jt4, jt5, jt6, jt7, jt8] at c2
        obtain ⟨X1, X2⟩ := q2 a6.toNat (by omega) T eT
        have TW : toW h T (h (i1 + 4) a6.toNat) := by { rcases X2 with y | y; { exact y.2 }; { omega } }
        rw [show ((a6.toNat : Nat) : Int) = a6 by omega] at TW X1
        have PL := toW_p TW
        have SK2 := szL_tk gs a6.toNat T eT
        refine OK_jg (by (first | assumption | omega | ((try dsimp only [jt2, jt3, jt4]); first | omega | (simp (disch := omega) only [jst_eq, jst_ne, jst_ni, jst_o, jI_i, jcpy_out, w32_id, jdiv_nn, jshr_k, jand_255] <;> first | done | omega | assumption)) | (intros; simp (disch := omega) only [jst_eq, jst_ne, jst_ni, jst_o, jI_i, jcpy_out, w32_id, jdiv_nn, *] <;> first | done | omega) | (intros; simp (disch := omega) only [jst_eq, jst_ne, jst_ni, jst_o, jI_i, jcpy_out, w32_id, jdiv_nn] at * <;> first | done | omega | assumption) | (intros; first | rfl | (exfalso; omega) | ((repeat' apply And.intro) <;> first | assumption | rfl | omega | trivial)))) ?_ -- o9
        refine OK_jb2 (vX14_weighedW (E := E) (T := T) (Rf := Rf) (l := l) _ _ (by rfl) (by exact q1.1) (by exact TW) (by omega)) (fun v95 h96 r1 => ?_)
        try dsimp only [Sum.elim_inl, Sum.elim_inr, jt2, jt3, jt4, jt5, jt6, jt7, jt8] at r1
        obtain ⟨vv1, wg1, mk1, dn1, pl1, fr1⟩ := r1
        try simp (disch := omega) only [jst_eq, jst_ne, jst_ni, jI_i, jcmp_lt, jcmp_gt, w32_id, jcpy_out, Sum.elim_inl, Sum.elim_inr, jt2, jt3, jt4, jt5, jt6, jt7, jt8] at vv1
        try simp (disch := omega) only [jst_eq, jst_ne, jst_ni, jI_i, jcmp_lt, jcmp_gt, w32_id, jcpy_out, Sum.elim_inl, Sum.elim_inr, jt2, jt3, jt4, jt5, jt6, jt7, jt8] at wg1
        try simp (disch := omega) only [jst_eq, jst_ne, jst_ni, jI_i, jcmp_lt, jcmp_gt, w32_id, jcpy_out, Sum.elim_inl, Sum.elim_inr, jt2, jt3, jt4, jt5, jt6, jt7, jt8] at mk1
        try simp (disch := omega) only [jst_eq, jst_ne, jst_ni, jI_i, jcmp_lt, jcmp_gt, w32_id, jcpy_out, Sum.elim_inl, Sum.elim_inr, jt2, jt3, jt4, jt5, jt6, jt7, jt8] at dn1
        try simp (disch := omega) only [jst_eq, jst_ne, jst_ni, jI_i, jcmp_lt, jcmp_gt, w32_id, jcpy_out, Sum.elim_inl, Sum.elim_inr, jt2, jt3, jt4, jt5, jt6, jt7, jt8] at pl1
        try simp (disch := omega) only [jst_eq, jst_ne, jst_ni, jI_i, jcmp_lt, jcmp_gt, w32_id, jcpy_out, Sum.elim_inl, Sum.elim_inr, jt2, jt3, jt4, jt5, jt6, jt7, jt8] at fr1
        have E3 : h96 (i1 + 4) a6 = h (i1 + 4) a6 := fr1 _ _ (by omega) (by omega)
        have E2 : h96 (i1 + 2) a6 = kch (kL sk a6) := by { rw [fr1 _ _ (by omega) (by omega), K4.2]; exact (kk.2.2 a6 q0.1 (by omega)).1 }
        have KS := (kk.2.2 a6 q0.1 (by omega)).2
        have MI1 := wg1.1
        have K0 := key0 (E := EL E l) (w := kL sk a6) (T := T) (MK_r q1.1.1).2
        refine OK_if (fun c3 => ?_) (fun c3 => ?_)
        · skip
          try simp (disch := omega) only [jst_eq, jst_ne, jst_ni, jI_i, jcmp_lt, jcmp_gt, w32_id, jcpy_out, Sum.elim_inl, Sum.elim_inr, jt2, jt3, jt4, jt5, jt6, jt7, jt8] at c3
          have K3 := (kch_c vv1.2).2.2.mp (by omega)
          have STX := wg308 (h' := h96) LA rg ⟨q0.1, by omega, by omega, kk.2.1⟩ eT X1 q1.2 q2 fr fr1 dn1 wg1 ⟨wg1.1, by (rw [mk1, K0, if_neg (fun z => z.2.1 K3)]; have := MK_r q1.1.1; omega)⟩ (fun _ _ _ => rfl)
          unfold gX14_readLoop_j386_308
          refine OK_jlx (fun x102 ex102 => ?_)
          try simp (disch := omega) only [jst_eq, jst_ne, jst_ni, jI_i, jcmp_lt, jcmp_gt, w32_id, jcpy_out, Sum.elim_inl, Sum.elim_inr, jt2, jt3, jt4, jt5, jt6, jt7, jt8] at ex102
          refine OK_il ?_ ?_
          · try dsimp only [Sum.elim_inl, Sum.elim_inr, jt2, jt3, jt4, jt5, jt6, jt7, jt8]
            refine ⟨?_, ?_, ?_, ?_⟩
            · (first | assumption | omega | ((try dsimp only [jt2, jt3, jt4]); first | omega | (simp (disch := omega) only [jst_eq, jst_ne, jst_ni, jst_o, jI_i, jcpy_out, w32_id, jdiv_nn, jshr_k, jand_255] <;> first | done | omega | assumption)) | (intros; simp (disch := omega) only [jst_eq, jst_ne, jst_ni, jst_o, jI_i, jcpy_out, w32_id, jdiv_nn, *] <;> first | done | omega) | (intros; simp (disch := omega) only [jst_eq, jst_ne, jst_ni, jst_o, jI_i, jcpy_out, w32_id, jdiv_nn] at * <;> first | done | omega | assumption) | (intros; first | rfl | (exfalso; omega) | ((repeat' apply And.intro) <;> first | assumption | rfl | omega | trivial))) -- o14 e3i.1
            · (rw [ex102]; exact STX.1) -- o15 e3i.2
            · (rw [ex102]; exact STX.2.1) -- o16 e3i.3
            · exact STX.2.2 -- o17 e3i.4
          · (first | assumption | omega | ((try dsimp only [jt2, jt3, jt4]); first | omega | (simp (disch := omega) only [jst_eq, jst_ne, jst_ni, jst_o, jI_i, jcpy_out, w32_id, jdiv_nn, jshr_k, jand_255] <;> first | done | omega | assumption)) | (intros; simp (disch := omega) only [jst_eq, jst_ne, jst_ni, jst_o, jI_i, jcpy_out, w32_id, jdiv_nn, *] <;> first | done | omega) | (intros; simp (disch := omega) only [jst_eq, jst_ne, jst_ni, jst_o, jI_i, jcpy_out, w32_id, jdiv_nn] at * <;> first | done | omega | assumption) | (intros; first | rfl | (exfalso; omega) | ((repeat' apply And.intro) <;> first | assumption | rfl | omega | trivial))) -- o18 e3m
        · skip
          try simp (disch := omega) only [jst_eq, jst_ne, jst_ni, jI_i, jcmp_lt, jcmp_gt, w32_id, jcpy_out, Sum.elim_inl, Sum.elim_inr, jt2, jt3, jt4, jt5, jt6, jt7, jt8] at c3
          refine OK_jg (by (first | assumption | omega | ((try dsimp only [jt2, jt3, jt4]); first | omega | (simp (disch := omega) only [jst_eq, jst_ne, jst_ni, jst_o, jI_i, jcpy_out, w32_id, jdiv_nn, jshr_k, jand_255] <;> first | done | omega | assumption)) | (intros; simp (disch := omega) only [jst_eq, jst_ne, jst_ni, jst_o, jI_i, jcpy_out, w32_id, jdiv_nn, *] <;> first | done | omega) | (intros; simp (disch := omega) only [jst_eq, jst_ne, jst_ni, jst_o, jI_i, jcpy_out, w32_id, jdiv_nn] at * <;> first | done | omega | assumption) | (intros; first | rfl | (exfalso; omega) | ((repeat' apply And.intro) <;> first | assumption | rfl | omega | trivial)))) ?_ -- o19
          refine OK_if (fun c4 => ?_) (fun c4 => ?_)
          · skip
            try simp (disch := omega) only [jst_eq, jst_ne, jst_ni, jI_i, jcmp_lt, jcmp_gt, w32_id, jcpy_out, Sum.elim_inl, Sum.elim_inr, jt2, jt3, jt4, jt5, jt6, jt7, jt8] at c4
            have K4' := (kch_c KS).2.2.mp (by rw [← E2]; exact c4)
            have STX := wg308 (h' := h96) LA rg ⟨q0.1, by omega, by omega, kk.2.1⟩ eT X1 q1.2 q2 fr fr1 dn1 wg1 ⟨wg1.1, by (rw [mk1, K0, if_neg (fun z => z.1 K4')]; have := MK_r q1.1.1; omega)⟩ (fun _ _ _ => rfl)
            unfold gX14_readLoop_j386_308
            refine OK_jlx (fun x102 ex102 => ?_)
            try simp (disch := omega) only [jst_eq, jst_ne, jst_ni, jI_i, jcmp_lt, jcmp_gt, w32_id, jcpy_out, Sum.elim_inl, Sum.elim_inr, jt2, jt3, jt4, jt5, jt6, jt7, jt8] at ex102
            refine OK_il ?_ ?_
            · try dsimp only [Sum.elim_inl, Sum.elim_inr, jt2, jt3, jt4, jt5, jt6, jt7, jt8]
              refine ⟨?_, ?_, ?_, ?_⟩
              · (first | assumption | omega | ((try dsimp only [jt2, jt3, jt4]); first | omega | (simp (disch := omega) only [jst_eq, jst_ne, jst_ni, jst_o, jI_i, jcpy_out, w32_id, jdiv_nn, jshr_k, jand_255] <;> first | done | omega | assumption)) | (intros; simp (disch := omega) only [jst_eq, jst_ne, jst_ni, jst_o, jI_i, jcpy_out, w32_id, jdiv_nn, *] <;> first | done | omega) | (intros; simp (disch := omega) only [jst_eq, jst_ne, jst_ni, jst_o, jI_i, jcpy_out, w32_id, jdiv_nn] at * <;> first | done | omega | assumption) | (intros; first | rfl | (exfalso; omega) | ((repeat' apply And.intro) <;> first | assumption | rfl | omega | trivial))) -- o20 e4i.1
              · (rw [ex102]; exact STX.1) -- o21 e4i.2
              · (rw [ex102]; exact STX.2.1) -- o22 e4i.3
              · exact STX.2.2 -- o23 e4i.4
            · (first | assumption | omega | ((try dsimp only [jt2, jt3, jt4]); first | omega | (simp (disch := omega) only [jst_eq, jst_ne, jst_ni, jst_o, jI_i, jcpy_out, w32_id, jdiv_nn, jshr_k, jand_255] <;> first | done | omega | assumption)) | (intros; simp (disch := omega) only [jst_eq, jst_ne, jst_ni, jst_o, jI_i, jcpy_out, w32_id, jdiv_nn, *] <;> first | done | omega) | (intros; simp (disch := omega) only [jst_eq, jst_ne, jst_ni, jst_o, jI_i, jcpy_out, w32_id, jdiv_nn] at * <;> first | done | omega | assumption) | (intros; first | rfl | (exfalso; omega) | ((repeat' apply And.intro) <;> first | assumption | rfl | omega | trivial))) -- o24 e4m
          · skip
            try simp (disch := omega) only [jst_eq, jst_ne, jst_ni, jI_i, jcmp_lt, jcmp_gt, w32_id, jcpy_out, Sum.elim_inl, Sum.elim_inr, jt2, jt3, jt4, jt5, jt6, jt7, jt8] at c4
            refine OK_if (fun c5 => ?_) (fun c5 => ?_)
            · skip
              try simp (disch := omega) only [jst_eq, jst_ne, jst_ni, jI_i, jcmp_lt, jcmp_gt, w32_id, jcpy_out, Sum.elim_inl, Sum.elim_inr, jt2, jt3, jt4, jt5, jt6, jt7, jt8] at c5
              have K5 : kdE (EL E l) T = kL sk a6 := (kch_inj vv1.2 KS).mp (by rw [← vv1.1, ← E2]; exact c5)
              have STX := wg308 (h' := h96) LA rg ⟨q0.1, by omega, by omega, kk.2.1⟩ eT X1 q1.2 q2 fr fr1 dn1 wg1 ⟨wg1.1, by (rw [mk1, K0, if_neg (fun z => z.2.2 K5)]; have := MK_r q1.1.1; omega)⟩ (fun _ _ _ => rfl)
              unfold gX14_readLoop_j386_308
              refine OK_jlx (fun x102 ex102 => ?_)
              try simp (disch := omega) only [jst_eq, jst_ne, jst_ni, jI_i, jcmp_lt, jcmp_gt, w32_id, jcpy_out, Sum.elim_inl, Sum.elim_inr, jt2, jt3, jt4, jt5, jt6, jt7, jt8] at ex102
              refine OK_il ?_ ?_
              · try dsimp only [Sum.elim_inl, Sum.elim_inr, jt2, jt3, jt4, jt5, jt6, jt7, jt8]
                refine ⟨?_, ?_, ?_, ?_⟩
                · (first | assumption | omega | ((try dsimp only [jt2, jt3, jt4]); first | omega | (simp (disch := omega) only [jst_eq, jst_ne, jst_ni, jst_o, jI_i, jcpy_out, w32_id, jdiv_nn, jshr_k, jand_255] <;> first | done | omega | assumption)) | (intros; simp (disch := omega) only [jst_eq, jst_ne, jst_ni, jst_o, jI_i, jcpy_out, w32_id, jdiv_nn, *] <;> first | done | omega) | (intros; simp (disch := omega) only [jst_eq, jst_ne, jst_ni, jst_o, jI_i, jcpy_out, w32_id, jdiv_nn] at * <;> first | done | omega | assumption) | (intros; first | rfl | (exfalso; omega) | ((repeat' apply And.intro) <;> first | assumption | rfl | omega | trivial))) -- o25 e5i.1
                · (rw [ex102]; exact STX.1) -- o26 e5i.2
                · (rw [ex102]; exact STX.2.1) -- o27 e5i.3
                · exact STX.2.2 -- o28 e5i.4
              · (first | assumption | omega | ((try dsimp only [jt2, jt3, jt4]); first | omega | (simp (disch := omega) only [jst_eq, jst_ne, jst_ni, jst_o, jI_i, jcpy_out, w32_id, jdiv_nn, jshr_k, jand_255] <;> first | done | omega | assumption)) | (intros; simp (disch := omega) only [jst_eq, jst_ne, jst_ni, jst_o, jI_i, jcpy_out, w32_id, jdiv_nn, *] <;> first | done | omega) | (intros; simp (disch := omega) only [jst_eq, jst_ne, jst_ni, jst_o, jI_i, jcpy_out, w32_id, jdiv_nn] at * <;> first | done | omega | assumption) | (intros; first | rfl | (exfalso; omega) | ((repeat' apply And.intro) <;> first | assumption | rfl | omega | trivial))) -- o29 e5m
            · skip
              try simp (disch := omega) only [jst_eq, jst_ne, jst_ni, jI_i, jcmp_lt, jcmp_gt, w32_id, jcpy_out, Sum.elim_inl, Sum.elim_inr, jt2, jt3, jt4, jt5, jt6, jt7, jt8] at c5
              refine OK_jg (by (first | assumption | omega | ((try dsimp only [jt2, jt3, jt4]); first | omega | (simp (disch := omega) only [jst_eq, jst_ne, jst_ni, jst_o, jI_i, jcpy_out, w32_id, jdiv_nn, jshr_k, jand_255] <;> first | done | omega | assumption)) | (intros; simp (disch := omega) only [jst_eq, jst_ne, jst_ni, jst_o, jI_i, jcpy_out, w32_id, jdiv_nn, *] <;> first | done | omega) | (intros; simp (disch := omega) only [jst_eq, jst_ne, jst_ni, jst_o, jI_i, jcpy_out, w32_id, jdiv_nn] at * <;> first | done | omega | assumption) | (intros; first | rfl | (exfalso; omega) | ((repeat' apply And.intro) <;> first | assumption | rfl | omega | trivial)))) ?_ -- o30
              refine OK_jb (vX14_note _ _ (by (first | assumption | omega | ((try dsimp only [jt2, jt3, jt4]); first | omega | (simp (disch := omega) only [jst_eq, jst_ne, jst_ni, jst_o, jI_i, jcpy_out, w32_id, jdiv_nn, jshr_k, jand_255] <;> first | done | omega | assumption)) | (intros; simp (disch := omega) only [jst_eq, jst_ne, jst_ni, jst_o, jI_i, jcpy_out, w32_id, jdiv_nn, *] <;> first | done | omega) | (intros; simp (disch := omega) only [jst_eq, jst_ne, jst_ni, jst_o, jI_i, jcpy_out, w32_id, jdiv_nn] at * <;> first | done | omega | assumption) | (intros; first | rfl | (exfalso; omega) | ((repeat' apply And.intro) <;> first | assumption | rfl | omega | trivial)))) (by (rw [E3, pl1]; omega))) (fun h101 r2 => ?_)
              try dsimp only [Sum.elim_inl, Sum.elim_inr, jt2, jt3, jt4, jt5, jt6, jt7, jt8] at r2
              obtain ⟨m2, k2, fr2⟩ := r2
              try simp (disch := omega) only [jst_eq, jst_ne, jst_ni, jI_i, jcmp_lt, jcmp_gt, w32_id, jcpy_out, Sum.elim_inl, Sum.elim_inr, jt2, jt3, jt4, jt5, jt6, jt7, jt8] at m2
              try simp (disch := omega) only [jst_eq, jst_ne, jst_ni, jI_i, jcmp_lt, jcmp_gt, w32_id, jcpy_out, Sum.elim_inl, Sum.elim_inr, jt2, jt3, jt4, jt5, jt6, jt7, jt8] at k2
              try simp (disch := omega) only [jst_eq, jst_ne, jst_ni, jI_i, jcmp_lt, jcmp_gt, w32_id, jcpy_out, Sum.elim_inl, Sum.elim_inr, jt2, jt3, jt4, jt5, jt6, jt7, jt8] at fr2
              have STX := wg308 (h' := h101) LA rg ⟨q0.1, by omega, by omega, kk.2.1⟩ eT X1 q1.2 q2 fr fr1 dn1 wg1 ⟨m2, by (rw [k2, E3, pl1, mk1, K0, if_pos ⟨fun z => c4 (by rw [E2]; exact (kch_c KS).2.2.mpr z), fun z => c3 (by rw [vv1.1]; exact (kch_c vv1.2).2.2.mpr z), fun z => c5 (by rw [vv1.1, E2, z])⟩])⟩ fr2
              unfold gX14_readLoop_j386_308
              refine OK_jlx (fun x102 ex102 => ?_)
              try simp (disch := omega) only [jst_eq, jst_ne, jst_ni, jI_i, jcmp_lt, jcmp_gt, w32_id, jcpy_out, Sum.elim_inl, Sum.elim_inr, jt2, jt3, jt4, jt5, jt6, jt7, jt8] at ex102
              refine OK_il ?_ ?_
              · try dsimp only [Sum.elim_inl, Sum.elim_inr, jt2, jt3, jt4, jt5, jt6, jt7, jt8]
                refine ⟨?_, ?_, ?_, ?_⟩
                · (first | assumption | omega | ((try dsimp only [jt2, jt3, jt4]); first | omega | (simp (disch := omega) only [jst_eq, jst_ne, jst_ni, jst_o, jI_i, jcpy_out, w32_id, jdiv_nn, jshr_k, jand_255] <;> first | done | omega | assumption)) | (intros; simp (disch := omega) only [jst_eq, jst_ne, jst_ni, jst_o, jI_i, jcpy_out, w32_id, jdiv_nn, *] <;> first | done | omega) | (intros; simp (disch := omega) only [jst_eq, jst_ne, jst_ni, jst_o, jI_i, jcpy_out, w32_id, jdiv_nn] at * <;> first | done | omega | assumption) | (intros; first | rfl | (exfalso; omega) | ((repeat' apply And.intro) <;> first | assumption | rfl | omega | trivial))) -- o33 e6i.1
                · (rw [ex102]; exact STX.1) -- o34 e6i.2
                · (rw [ex102]; exact STX.2.1) -- o35 e6i.3
                · exact STX.2.2 -- o36 e6i.4
              · (first | assumption | omega | ((try dsimp only [jt2, jt3, jt4]); first | omega | (simp (disch := omega) only [jst_eq, jst_ne, jst_ni, jst_o, jI_i, jcpy_out, w32_id, jdiv_nn, jshr_k, jand_255] <;> first | done | omega | assumption)) | (intros; simp (disch := omega) only [jst_eq, jst_ne, jst_ni, jst_o, jI_i, jcpy_out, w32_id, jdiv_nn, *] <;> first | done | omega) | (intros; simp (disch := omega) only [jst_eq, jst_ne, jst_ni, jst_o, jI_i, jcpy_out, w32_id, jdiv_nn] at * <;> first | done | omega | assumption) | (intros; first | rfl | (exfalso; omega) | ((repeat' apply And.intro) <;> first | assumption | rfl | omega | trivial))) -- o37 e6m
  · try dsimp only [Sum.elim_inl, Sum.elim_inr, jt2, jt3, jt4, jt5, jt6, jt7, jt8]
    refine ⟨?_, ?_, ?_, ?_⟩
    · (first | assumption | omega | ((try dsimp only [jt2, jt3, jt4]); first | omega | (simp (disch := omega) only [jst_eq, jst_ne, jst_ni, jst_o, jI_i, jcpy_out, w32_id, jdiv_nn, jshr_k, jand_255] <;> first | done | omega | assumption)) | (intros; simp (disch := omega) only [jst_eq, jst_ne, jst_ni, jst_o, jI_i, jcpy_out, w32_id, jdiv_nn, *] <;> first | done | omega) | (intros; simp (disch := omega) only [jst_eq, jst_ne, jst_ni, jst_o, jI_i, jcpy_out, w32_id, jdiv_nn] at * <;> first | done | omega | assumption) | (intros; first | rfl | (exfalso; omega) | ((repeat' apply And.intro) <;> first | assumption | rfl | omega | trivial))) -- o38 init.1
    · (rw [h1]; exact ⟨wg, by (show MK h0 = min (MK h0) 1000000; omega)⟩) -- o39 init.2
    · (rw [h1]; exact ls) -- o40 init.3
    · exact fun _ _ _ _ => rfl -- o41 init.4

